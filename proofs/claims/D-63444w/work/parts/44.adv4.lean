/-! a join's advance; any node's -/
section ADV
variable {p : Program} {l : Launch} {e : Env} {R : Room} {s : State} {m : MethodId} {args : Array Value} {below : List Frame} {meth : Method} {c : Code} {H : Heap} {locs : List Loc} {cells slots : Nat} {Q : State → Prop}
variable {ls : Array Slot} {G : mm_G} {A : Nat → Prop} {Z : Nat × Nat} {L : List Nat} {f : Nat → va_E} {xs : Nat → Nat} {n np : Nat} {tm pv : Nat → Nat} {q ad : Nat → Nat → Nat} {CL : Nat → Bool} {ss : Nat → Nat → Nat → Int64} {rh : Nat → Nat × Nat} {ph : Nat → Nat → Nat} {k : Nat}
set_option maxHeartbeats 1000000 in
theorem W_adv4 (hK : KG G s) (hT : ST A Z s) (hx : p.tables.exec = Jvm.exec) (hb : c.code = b_Mon_place) (hml : c.maxLocals = 5) (hown : s.vm.findClass "MetricLogMonitor" = some m.cls) (hls : ls.size = 5) (hRf : 3 ≤ R.frames) (hRl : 70 ≤ R.locals) (hRc : cells ≤ R.cells) (hRs : slots ≤ R.slots) (hP : va_P G.1 cls_all (va_pl L f) H) (hL : PD A L) (hS : va_S A s.heap H locs) (hA : ∀ q, s.heap.size ≤ q → A q) (hLG : LGf G xs np tm pv L f) (hF : ∀ j, j < n → FC G q ad CL ss L f j) (hRho : RHO rh q ad xs n) (hkn : k < n) (hW : WF n (q 0) (q 1) (q 2) (q 3) (q 4) (q 5)) (hT0 : TL np tm) (hpv : ∀ r, r < 3 → pv r < 65536) (hph : ∀ r, ph r (np - 1) = pv r) (hB : BV np tm ph q ss k) (hk0 : q 0 k = 4 ∨ q 0 k = 5) (kk : ∀ (r9 h9 : Nat) (s9 x9 : Nat → Int64) (f1 : Nat → va_E) (H1 : Heap) (locs1 : List Loc), va_P G.1 cls_all (va_pl L f1) H1 → va_S A s.heap H1 locs1 → AV np tm ph q ss k r9 h9 s9 x9 → KP L f L f1 (fun a => a = ad 0 k ∨ a = ad 1 k ∨ (8 ≤ q 0 k ∧ a = ad 2 k)) → FC G (setq q k r9 h9) ad CL (sets ss k s9 x9) L f1 k → W p l e R s m args below meth c H1 locs1 cells slots Q (F0 m 112 ls [])) :
    W p l e R s m args below meth c H locs cells slots Q (F0 m 109 ls [.ref (xs 2), .ref (ad 0 k)]) := by
  have hge3 : 3 ≤ q 0 k := by rcases hk0 with h | h <;> (rw [h]; decide)
  have hlt7 : q 0 k < 7 := by rcases hk0 with h | h <;> (rw [h]; decide)
  have hB2 := hB.2.1 hge3
  have nl : k ≠ q 2 k := Nat.ne_of_gt hB2.1
  have nr : k ≠ q 3 k := Nat.ne_of_gt hB2.2.1
  have hlq : q 2 k < n := Nat.lt_trans hB2.1 hkn
  have hrq : q 3 k < n := Nat.lt_trans hB2.2.1 hkn
  obtain ⟨w1, w2, w3, w4, w5, w6⟩ := hW.2 k hkn
  have hn12 := hW.1
  obtain ⟨f0, f1, f2, f3⟩ := hF k hkn
  obtain ⟨hG2, hG3, hG4⟩ := hLG
  obtain ⟨⟨x0, x1, x2, x3, x4, x5⟩, hr⟩ := hRho
  obtain ⟨r0, r1, r2, r3⟩ := hr k hkn
  rw [nd_4 hk0] at f0
  obtain ⟨an, han⟩ : ∃ an, an = decide (q 0 k = 4) := ⟨_, rfl⟩
  rw [← han] at f0
  have d01 : ad 0 k ≠ ad 1 k := ne_rh r0 r1 (by simp)
  obtain ⟨hl0, hl1, _⟩ := hF (q 2 k) hlq
  have hl0 := nd_c hl0
  obtain ⟨rl0, rl1, _⟩ := hr (q 2 k) hlq
  obtain ⟨hr0, hr1, _⟩ := hF (q 3 k) hrq
  have hr0 := nd_c hr0
  obtain ⟨rr0, rr1, _⟩ := hr (q 3 k) hrq
  have hPc := pl_cons hP f0 (pl_1 hP f1)
  have hFc := wF (w := [(ad 0 k, (.inr (3, [.ref (ad 0 (q 2 k)), .ref (ad 0 (q 3 k)), .int (nI (q 6 k)), .int (nI (q 7 k)), .int (bI (CL k)), .ref (ad 1 k), .int (nI (q 8 k)), .int (bI (an))]) : va_E)), (ad 1 k, (.inl (G.2.1 1, 24, .inr (.inl (ss 0 k))) : va_E))]) hL hA hS.1 (fa_2 f0.1 f1.1)
  refine mm_qv (mm_runU hK ⟨hx, hb, hml, hown⟩ lk_Mon_157_Join (c_Join_advance l G (ad 0 k) (ad 1 k) (q 8 k) (.int (nI (q 6 k))) (.int (nI (q 7 k))) (.int (bI (CL k))) (ss 0 k) (ad 0 (q 2 k)) (clN (q 0 (q 2 k))) (clN_lt _) (va_rf (lfR q ad (q 2 k))) (va_rf (rtR q ad (q 2 k))) (.int (nI (q 6 (q 2 k)))) (.int (nI (q 7 (q 2 k)))) (.int (bI (CL (q 2 k)))) (ad 1 (q 2 k)) (q 8 (q 2 k)) (exL q ad (q 2 k)) (ss 0 (q 2 k)) (ad 0 (q 3 k)) (clN (q 0 (q 3 k))) (clN_lt _) (va_rf (lfR q ad (q 3 k))) (va_rf (rtR q ad (q 3 k))) (.int (nI (q 6 (q 3 k)))) (.int (nI (q 7 (q 3 k)))) (.int (bI (CL (q 3 k)))) (ad 1 (q 3 k)) (q 8 (q 3 k)) (exL q ad (q 3 k)) (ss 0 (q 3 k)) an (xs 2) (hB.2.2.2.2.1 (hk0.elim Or.inl (fun h => Or.inr (Or.inl h)))) (Nat.le_trans hB2.2.2.1 hT0.1) (Nat.le_trans hB2.2.2.2 hT0.1) (wD (nd2 d01)) (fa_4 (nA_w (fa_2 (ne_rh r0 rl0 (by simp [nl, nr])) (ne_rh r1 rl0 (by simp [nl, nr]))) (pl_lt hP hl0.1)) (nA_w (fa_2 (ne_rh r0 rl1 (by simp [nl, nr])) (ne_rh r1 rl1 (by simp [nl, nr]))) (pl_lt hP hl1.1)) (nA_w (fa_2 (ne_rh r0 rr0 (by simp [nl, nr])) (ne_rh r1 rr0 (by simp [nl, nr]))) (pl_lt hP hr0.1)) (nA_w (fa_2 (ne_rh r0 rr1 (by simp [nl, nr])) (ne_rh r1 rr1 (by simp [nl, nr]))) (pl_lt hP hr1.1)))) ⟨rfl, rfl, Nat.le_trans (by decide) hRf, Nat.le_trans (by decide) hRl⟩ (mm_rc hK hPc 0 rfl rfl) ⟨hPc, (pl_cons hP hl0 (pl_cons hP hl1 (pl_cons hP hr0 (pl_1 hP hr1))))⟩ rfl hls rfl (Nat.le_of_ble_eq_true rfl) ⟨hRc, hRs⟩ d_Mon_place_109) hS hFc (fun H1 locs1 e1 hz1 hk1 hS1 => ?_)
  subst han
  obtain ⟨f9, u1, u2, u3⟩ := pl_upd hP hk1 e1 (nd2 d01) rfl
  refine kk _ _ _ _ f9 H1 locs1 u1 hS1 (AV_4 hB hk0 (ss 1 k) (q 9 k)) (fun a e h hB => u2 a e h (fa_2 (fun e => hB (Or.inl e.symm)) (fun e => hB (Or.inr (Or.inl e.symm))))) ⟨?_, ?_, fun h7 => ?_, fun h8 => ?_⟩
  · rw [ns_4 hk0]; exact u3 _ (List.mem_cons_self ..) f0.1
  · rw [sets_0]; exact u3 _ (List.mem_cons_of_mem _ (List.mem_cons_self ..)) f1.1
  · rw [setq_c (by decide) (by decide)] at h7; exact absurd h7 (Nat.not_le.mpr hlt7)
  · rw [setq_c (by decide) (by decide)] at h8; exact absurd (Nat.le_trans (by decide) h8) (Nat.not_le.mpr hlt7)
theorem W_adv (hK : KG G s) (hT : ST A Z s) (hx : p.tables.exec = Jvm.exec) (hb : c.code = b_Mon_place) (hml : c.maxLocals = 5) (hown : s.vm.findClass "MetricLogMonitor" = some m.cls) (hls : ls.size = 5) (hRf : 3 ≤ R.frames) (hRl : 70 ≤ R.locals) (hRc : cells ≤ R.cells) (hRs : slots ≤ R.slots) (hP : va_P G.1 cls_all (va_pl L f) H) (hL : PD A L) (hS : va_S A s.heap H locs) (hA : ∀ q, s.heap.size ≤ q → A q) (hLG : LGf G xs np tm pv L f) (hF : ∀ j, j < n → FC G q ad CL ss L f j) (hRho : RHO rh q ad xs n) (hkn : k < n) (hW : WF n (q 0) (q 1) (q 2) (q 3) (q 4) (q 5)) (hT0 : TL np tm) (hpv : ∀ r, r < 3 → pv r < 65536) (hph : ∀ r, ph r (np - 1) = pv r) (hB : BV np tm ph q ss k) (kk : ∀ (r9 h9 : Nat) (s9 x9 : Nat → Int64) (f1 : Nat → va_E) (H1 : Heap) (locs1 : List Loc), va_P G.1 cls_all (va_pl L f1) H1 → va_S A s.heap H1 locs1 → AV np tm ph q ss k r9 h9 s9 x9 → KP L f L f1 (fun a => a = ad 0 k ∨ a = ad 1 k ∨ (8 ≤ q 0 k ∧ a = ad 2 k)) → FC G (setq q k r9 h9) ad CL (sets ss k s9 x9) L f1 k → W p l e R s m args below meth c H1 locs1 cells slots Q (F0 m 112 ls [])) :
    W p l e R s m args below meth c H locs cells slots Q (F0 m 109 ls [.ref (xs 2), .ref (ad 0 k)]) := by
  have w1 := (hW.2 k hkn).1
  rcases (show (q 0 k = 0) ∨ (q 0 k = 1 ∨ q 0 k = 2) ∨ (q 0 k = 3) ∨ (q 0 k = 4 ∨ q 0 k = 5) ∨ (q 0 k = 6) ∨ (q 0 k = 7) ∨ (q 0 k = 8) ∨ (q 0 k = 9) by omega) with h | h | h | h | h | h | h | h
  · exact W_adv0 hK hT hx hb hml hown hls hRf hRl hRc hRs hP hL hS hA hLG hF hRho hkn hW hT0 hpv hph hB h kk
  · exact W_adv1 hK hT hx hb hml hown hls hRf hRl hRc hRs hP hL hS hA hLG hF hRho hkn hW hT0 hpv hph hB h kk
  · exact W_adv3 hK hT hx hb hml hown hls hRf hRl hRc hRs hP hL hS hA hLG hF hRho hkn hW hT0 hpv hph hB h kk
  · exact W_adv4 hK hT hx hb hml hown hls hRf hRl hRc hRs hP hL hS hA hLG hF hRho hkn hW hT0 hpv hph hB h kk
  · exact W_adv6 hK hT hx hb hml hown hls hRf hRl hRc hRs hP hL hS hA hLG hF hRho hkn hW hT0 hpv hph hB h kk
  · exact W_adv7 hK hT hx hb hml hown hls hRf hRl hRc hRs hP hL hS hA hLG hF hRho hkn hW hT0 hpv hph hB h kk
  · exact W_adv8 hK hT hx hb hml hown hls hRf hRl hRc hRs hP hL hS hA hLG hF hRho hkn hW hT0 hpv hph hB h kk
  · exact W_adv9 hK hT hx hb hml hown hls hRf hRl hRc hRs hP hL hS hA hLG hF hRho hkn hW hT0 hpv hph hB h kk
end ADV
