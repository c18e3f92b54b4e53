/-! a node's advance and reset over the pool -/
theorem pl_upd {D : va_G} {cl : List vw_C} {L : List Nat} {f : Nat → va_E} {H H1 : Heap} {wc wo : va_W} (hP : va_P D cl (va_pl L f) H) (hk : ∀ q : Nat, q < H.size → ¬ va_A wc H.size q → H1[q]? = H[q]?) (hP1 : va_P D cl wo H1) (nd : (wo.map Prod.fst).Nodup) (ho : wo.map Prod.fst = wc.map Prod.fst) :
    ∃ f1 : Nat → va_E, va_P D cl (va_pl L f1) H1 ∧ (∀ a e, PLc L f a e → (∀ q, q ∈ wc → q.1 ≠ a) → PLc L f1 a e) ∧ (∀ q, q ∈ wo → q.1 ∈ L → PLc L f1 q.1 q.2) := by
  have keep : ∀ a, (∀ q, q ∈ wc → q.1 ≠ a) → ovf f wo a = f a := by
    intro a hc
    apply ovf_out
    intro q hq e
    have : q.1 ∈ wc.map Prod.fst := by rw [← ho]; exact List.mem_map_of_mem hq
    obtain ⟨p, hp, hpe⟩ := List.mem_map.mp this
    exact hc p hp (hpe.trans e)
  refine ⟨ovf f wo, fun k q hq => ?_, fun a e h hc => ⟨h.1, (keep a hc).trans h.2⟩, fun q hq hL => ⟨hL, ovf_in _ nd q hq⟩⟩
  obtain ⟨h1, h2⟩ := pl_of hq
  have e : q = (q.1, ovf f wo q.1) := by rw [← h2]
  rw [e]
  by_cases hw : ∃ p, p ∈ wo ∧ p.1 = q.1
  · obtain ⟨p, hp, hpe⟩ := hw
    rw [← hpe, ovf_in _ nd p hp]
    obtain ⟨j, hj⟩ := List.getElem?_of_mem hp
    exact hP1 j _ hj
  · have hc : ∀ p, p ∈ wc → p.1 ≠ q.1 := by
      intro p hp he
      have : p.1 ∈ wo.map Prod.fst := by rw [ho]; exact List.mem_map_of_mem hp
      obtain ⟨p2, hp2, hpe⟩ := List.mem_map.mp this
      exact hw ⟨p2, hp2, hpe.trans he⟩
    rw [keep _ hc]
    refine va_at.kept (pl_at hP ⟨h1, rfl⟩) (hk _ (pl_lt hP h1) ?_)
    rintro (⟨j, e2, hj⟩ | h3)
    · exact hc _ (List.mem_of_getElem? hj) rfl
    · exact absurd h3 (Nat.not_le.mpr (pl_lt hP h1))
theorem nd_c {q ad : Nat → Nat → Nat} {CL : Nat → Bool} {L : List Nat} {f : Nat → va_E} {c : Nat} (h : PLc L f (ad 0 c) (ndE q ad CL c)) : PLc L f (ad 0 c) (.inr (clN (q 0 c), [va_rf (lfR q ad c), va_rf (rtR q ad c), .int (nI (q 6 c)), .int (nI (q 7 c)), .int (bI (CL c)), .ref (ad 1 c), .int (nI (q 8 c))] ++ exL q ad c)) := h

theorem fa_4 {α : Type} {P : α → Prop} {a1 a2 a3 a4 : α} (h1 : P a1) (h2 : P a2) (h3 : P a3) (h4 : P a4) : ∀ q, q ∈ [a1, a2, a3, a4] → P q := by
  intro q hq
  simp only [List.mem_cons, List.not_mem_nil, or_false] at hq
  rcases hq with rfl | rfl | rfl | rfl <;> assumption
theorem fa_6 {α : Type} {P : α → Prop} {a1 a2 a3 a4 a5 a6 : α} (h1 : P a1) (h2 : P a2) (h3 : P a3) (h4 : P a4) (h5 : P a5) (h6 : P a6) : ∀ q, q ∈ [a1, a2, a3, a4, a5, a6] → P q := by
  intro q hq
  simp only [List.mem_cons, List.not_mem_nil, or_false] at hq
  rcases hq with rfl | rfl | rfl | rfl | rfl | rfl <;> assumption
theorem fa_8 {α : Type} {P : α → Prop} {a1 a2 a3 a4 a5 a6 a7 a8 : α} (h1 : P a1) (h2 : P a2) (h3 : P a3) (h4 : P a4) (h5 : P a5) (h6 : P a6) (h7 : P a7) (h8 : P a8) : ∀ q, q ∈ [a1, a2, a3, a4, a5, a6, a7, a8] → P q := by
  intro q hq
  simp only [List.mem_cons, List.not_mem_nil, or_false] at hq
  rcases hq with rfl | rfl | rfl | rfl | rfl | rfl | rfl | rfl <;> assumption

theorem nd_0 {q ad : Nat → Nat → Nat} {CL : Nat → Bool} {k : Nat} (hk : q 0 k = 0) : ndE q ad CL k = .inr (0, [.null, .null, .int (nI (q 6 k)), .int (nI (q 7 k)), .int (bI (CL k)), .ref (ad 1 k), .int (nI (q 8 k)), .int (nI (q 1 k)), .int (nI (q 2 k)), .int (nI (q 3 k))]) := by
  simp [ndE, clN, lfR, rtR, exL, va_rf, hk]
theorem ns_0 {q ad : Nat → Nat → Nat} {CL : Nat → Bool} {k r h9 : Nat} (hk : q 0 k = 0) : ndE (setq q k r h9) ad CL k = .inr (0, [.null, .null, .int (nI (q 6 k)), .int (nI (q 7 k)), .int (bI (CL k)), .ref (ad 1 k), .int (nI (r)), .int (nI (q 1 k)), .int (nI (q 2 k)), .int (nI (q 3 k))]) := by
  simp [ndE, clN, lfR, rtR, exL, va_rf, hk, setq, va_up]
theorem nd_1 {q ad : Nat → Nat → Nat} {CL : Nat → Bool} {k : Nat} (hk : q 0 k = 1 ∨ q 0 k = 2) : ndE q ad CL k = .inr (1, [.null, .null, .int (nI (q 6 k)), .int (nI (q 7 k)), .int (bI (CL k)), .ref (ad 1 k), .int (nI (q 8 k)), .long (cpS (decide (q 0 k = 2)) (q 2 k) (q 3 k) 16)]) := by
  rcases hk with h | h <;> simp [ndE, clN, lfR, rtR, exL, va_rf, h]
theorem ns_1 {q ad : Nat → Nat → Nat} {CL : Nat → Bool} {k r h9 : Nat} (hk : q 0 k = 1 ∨ q 0 k = 2) : ndE (setq q k r h9) ad CL k = .inr (1, [.null, .null, .int (nI (q 6 k)), .int (nI (q 7 k)), .int (bI (CL k)), .ref (ad 1 k), .int (nI (r)), .long (cpS (decide (q 0 k = 2)) (q 2 k) (q 3 k) 16)]) := by
  rcases hk with h | h <;> simp [ndE, clN, lfR, rtR, exL, va_rf, h, setq, va_up]
theorem nd_3 {q ad : Nat → Nat → Nat} {CL : Nat → Bool} {k : Nat} (hk : q 0 k = 3) : ndE q ad CL k = .inr (2, [.ref (ad 0 (q 2 k)), .null, .int (nI (q 6 k)), .int (nI (q 7 k)), .int (bI (CL k)), .ref (ad 1 k), .int (nI (q 8 k))]) := by
  simp [ndE, clN, lfR, rtR, exL, va_rf, hk]
theorem ns_3 {q ad : Nat → Nat → Nat} {CL : Nat → Bool} {k r h9 : Nat} (hk : q 0 k = 3) : ndE (setq q k r h9) ad CL k = .inr (2, [.ref (ad 0 (q 2 k)), .null, .int (nI (q 6 k)), .int (nI (q 7 k)), .int (bI (CL k)), .ref (ad 1 k), .int (nI (r))]) := by
  simp [ndE, clN, lfR, rtR, exL, va_rf, hk, setq, va_up]
theorem nd_4 {q ad : Nat → Nat → Nat} {CL : Nat → Bool} {k : Nat} (hk : q 0 k = 4 ∨ q 0 k = 5) : ndE q ad CL k = .inr (3, [.ref (ad 0 (q 2 k)), .ref (ad 0 (q 3 k)), .int (nI (q 6 k)), .int (nI (q 7 k)), .int (bI (CL k)), .ref (ad 1 k), .int (nI (q 8 k)), .int (bI (decide (q 0 k = 4)))]) := by
  rcases hk with h | h <;> simp [ndE, clN, lfR, rtR, exL, va_rf, h]
theorem ns_4 {q ad : Nat → Nat → Nat} {CL : Nat → Bool} {k r h9 : Nat} (hk : q 0 k = 4 ∨ q 0 k = 5) : ndE (setq q k r h9) ad CL k = .inr (3, [.ref (ad 0 (q 2 k)), .ref (ad 0 (q 3 k)), .int (nI (q 6 k)), .int (nI (q 7 k)), .int (bI (CL k)), .ref (ad 1 k), .int (nI (r)), .int (bI (decide (q 0 k = 4)))]) := by
  rcases hk with h | h <;> simp [ndE, clN, lfR, rtR, exL, va_rf, h, setq, va_up]
theorem nd_6 {q ad : Nat → Nat → Nat} {CL : Nat → Bool} {k : Nat} (hk : q 0 k = 6) : ndE q ad CL k = .inr (4, [.ref (ad 0 (q 2 k)), .null, .int (nI (q 6 k)), .int (nI (q 7 k)), .int (bI (CL k)), .ref (ad 1 k), .int (nI (q 8 k)), .int (nI (q 1 k))]) := by
  simp [ndE, clN, lfR, rtR, exL, va_rf, hk]
theorem ns_6 {q ad : Nat → Nat → Nat} {CL : Nat → Bool} {k r h9 : Nat} (hk : q 0 k = 6) : ndE (setq q k r h9) ad CL k = .inr (4, [.ref (ad 0 (q 2 k)), .null, .int (nI (q 6 k)), .int (nI (q 7 k)), .int (bI (CL k)), .ref (ad 1 k), .int (nI (r)), .int (nI (q 1 k))]) := by
  simp [ndE, clN, lfR, rtR, exL, va_rf, hk, setq, va_up]
theorem nd_7 {q ad : Nat → Nat → Nat} {CL : Nat → Bool} {k : Nat} (hk : q 0 k = 7) : ndE q ad CL k = .inr (5, [.ref (ad 0 (q 2 k)), .null, .int (nI (q 6 k)), .int (nI (q 7 k)), .int (bI (CL k)), .ref (ad 1 k), .int (nI (q 8 k)), .ref (ad 3 k)]) := by
  simp [ndE, clN, lfR, rtR, exL, va_rf, hk]
theorem ns_7 {q ad : Nat → Nat → Nat} {CL : Nat → Bool} {k r h9 : Nat} (hk : q 0 k = 7) : ndE (setq q k r h9) ad CL k = .inr (5, [.ref (ad 0 (q 2 k)), .null, .int (nI (q 6 k)), .int (nI (q 7 k)), .int (bI (CL k)), .ref (ad 1 k), .int (nI (r)), .ref (ad 3 k)]) := by
  simp [ndE, clN, lfR, rtR, exL, va_rf, hk, setq, va_up]
theorem nd_8 {q ad : Nat → Nat → Nat} {CL : Nat → Bool} {k : Nat} (hk : q 0 k = 8) : ndE q ad CL k = .inr (6, [.ref (ad 0 (q 2 k)), .ref (ad 0 (q 3 k)), .int (nI (q 6 k)), .int (nI (q 7 k)), .int (bI (CL k)), .ref (ad 1 k), .int (nI (q 8 k)), .ref (ad 3 k), .ref (ad 2 k), .int (nI (q 9 k))]) := by
  simp [ndE, clN, lfR, rtR, exL, va_rf, hk]
theorem ns_8 {q ad : Nat → Nat → Nat} {CL : Nat → Bool} {k r h9 : Nat} (hk : q 0 k = 8) : ndE (setq q k r h9) ad CL k = .inr (6, [.ref (ad 0 (q 2 k)), .ref (ad 0 (q 3 k)), .int (nI (q 6 k)), .int (nI (q 7 k)), .int (bI (CL k)), .ref (ad 1 k), .int (nI (r)), .ref (ad 3 k), .ref (ad 2 k), .int (nI (h9))]) := by
  simp [ndE, clN, lfR, rtR, exL, va_rf, hk, setq, va_up]
theorem nd_9 {q ad : Nat → Nat → Nat} {CL : Nat → Bool} {k : Nat} (hk : q 0 k = 9) : ndE q ad CL k = .inr (7, [.ref (ad 0 (q 2 k)), .ref (ad 0 (q 3 k)), .int (nI (q 6 k)), .int (nI (q 7 k)), .int (bI (CL k)), .ref (ad 1 k), .int (nI (q 8 k)), .ref (ad 3 k), .ref (ad 2 k), .int (nI (q 9 k))]) := by
  simp [ndE, clN, lfR, rtR, exL, va_rf, hk]
theorem ns_9 {q ad : Nat → Nat → Nat} {CL : Nat → Bool} {k r h9 : Nat} (hk : q 0 k = 9) : ndE (setq q k r h9) ad CL k = .inr (7, [.ref (ad 0 (q 2 k)), .ref (ad 0 (q 3 k)), .int (nI (q 6 k)), .int (nI (q 7 k)), .int (bI (CL k)), .ref (ad 1 k), .int (nI (r)), .ref (ad 3 k), .ref (ad 2 k), .int (nI (h9))]) := by
  simp [ndE, clN, lfR, rtR, exL, va_rf, hk, setq, va_up]
section ADV
variable {p : Program} {l : Launch} {e : Env} {R : Room} {s : State} {m : MethodId} {args : Array Value} {below : List Frame} {meth : Method} {c : Code} {H : Heap} {locs : List Loc} {cells slots : Nat} {Q : State → Prop}
variable {ls : Array Slot} {G : mm_G} {A : Nat → Prop} {Z : Nat × Nat} {L : List Nat} {f : Nat → va_E} {xs : Nat → Nat} {n np : Nat} {tm pv : Nat → Nat} {q ad : Nat → Nat → Nat} {CL : Nat → Bool} {ss : Nat → Nat → Nat → Int64} {rh : Nat → Nat × Nat} {ph : Nat → Nat → Nat} {k : Nat}
theorem ne_rh {rh : Nat → Nat × Nat} {a b : Nat} {x y : Nat × Nat} (h1 : rh a = x) (h2 : rh b = y) (h : x ≠ y) : a ≠ b := fun e => h (by rw [← h1, ← h2, e])
set_option maxHeartbeats 1000000 in
theorem W_adv0 (hK : KG G s) (hT : ST A Z s) (hx : p.tables.exec = Jvm.exec) (hb : c.code = b_Mon_place) (hml : c.maxLocals = 5) (hown : s.vm.findClass "MetricLogMonitor" = some m.cls) (hls : ls.size = 5) (hRf : 3 ≤ R.frames) (hRl : 70 ≤ R.locals) (hRc : cells ≤ R.cells) (hRs : slots ≤ R.slots) (hP : va_P G.1 cls_all (va_pl L f) H) (hL : PD A L) (hS : va_S A s.heap H locs) (hA : ∀ q, s.heap.size ≤ q → A q) (hLG : LGf G xs np tm pv L f) (hF : ∀ j, j < n → FC G q ad CL ss L f j) (hRho : RHO rh q ad xs n) (hkn : k < n) (hW : WF n (q 0) (q 1) (q 2) (q 3) (q 4) (q 5)) (hT0 : TL np tm) (hpv : ∀ r, r < 3 → pv r < 65536) (hph : ∀ r, ph r (np - 1) = pv r) (hB : BV np tm ph q ss k) (hk0 : q 0 k = 0) (kk : ∀ (r9 h9 : Nat) (s9 x9 : Nat → Int64) (f1 : Nat → va_E) (H1 : Heap) (locs1 : List Loc), va_P G.1 cls_all (va_pl L f1) H1 → va_S A s.heap H1 locs1 → AV np tm ph q ss k r9 h9 s9 x9 → KP L f L f1 (fun a => a = ad 0 k ∨ a = ad 1 k ∨ (8 ≤ q 0 k ∧ a = ad 2 k)) → FC G (setq q k r9 h9) ad CL (sets ss k s9 x9) L f1 k → W p l e R s m args below meth c H1 locs1 cells slots Q (F0 m 112 ls [])) :
    W p l e R s m args below meth c H locs cells slots Q (F0 m 109 ls [.ref (xs 2), .ref (ad 0 k)]) := by
  obtain ⟨w1, w2, w3, w4, w5, w6⟩ := hW.2 k hkn
  have hn12 := hW.1
  obtain ⟨f0, f1, f2, f3⟩ := hF k hkn
  obtain ⟨hG2, hG3, hG4⟩ := hLG
  obtain ⟨⟨x0, x1, x2, x3, x4, x5⟩, hr⟩ := hRho
  obtain ⟨r0, r1, r2, r3⟩ := hr k hkn
  rw [nd_0 hk0] at f0
  have d01 : ad 0 k ≠ ad 1 k := ne_rh r0 r1 (by simp)
  have hPc := pl_cons hP f0 (pl_1 hP f1)
  have hFc := wF (w := [(ad 0 k, (.inr (0, [.null, .null, .int (nI (q 6 k)), .int (nI (q 7 k)), .int (bI (CL k)), .ref (ad 1 k), .int (nI (q 8 k)), .int (nI (q 1 k)), .int (nI (q 2 k)), .int (nI (q 3 k))]) : va_E)), (ad 1 k, (.inl (G.2.1 1, 24, .inr (.inl (ss 0 k))) : va_E))]) hL hA hS.1 (fa_2 f0.1 f1.1)
  refine mm_qv (mn_runU hK hT hS hFc ⟨hx, hb, hml, hown⟩ lk_Mon_157_Atom (c_Atom_advance l G Z (ad 0 k) (ad 1 k) (q 8 k) .null .null (.int (nI (q 6 k))) (.int (nI (q 7 k))) (.int (bI (CL k))) (ss 0 k) (q 1 k) (q 2 k) (q 3 k) (xs 2) (xs 3) (xs 4) np tm pv (by have := hB.2.2.1 (by omega); have := hT0.1; omega) (by omega) (by omega) (by omega) (by omega) (by omega) (hpv _ (by omega)) (wD (nd2 d01)) (fa_3 (nA_w (fa_2 (ne_rh r0 x2 (by first | (simp; done) | (simp; omega))) (ne_rh r1 x2 (by first | (simp; done) | (simp; omega)))) (pl_lt hP hG2.1)) (nA_w (fa_2 (ne_rh r0 x3 (by first | (simp; done) | (simp; omega))) (ne_rh r1 x3 (by first | (simp; done) | (simp; omega)))) (pl_lt hP hG3.1)) (nA_w (fa_2 (ne_rh r0 x4 (by first | (simp; done) | (simp; omega))) (ne_rh r1 x4 (by first | (simp; done) | (simp; omega)))) (pl_lt hP hG4.1)))) ⟨rfl, rfl, Nat.le_trans (by decide) hRf, Nat.le_trans (by decide) hRl⟩ (mm_rc hK hPc 0 rfl rfl) ⟨hPc, (pl_cons hP hG2 (pl_cons hP hG3 (pl_1 hP hG4)))⟩ rfl hls rfl (Nat.le_of_ble_eq_true rfl) ⟨hRc, hRs⟩ d_Mon_place_109) hS hFc (fun H1 locs1 e1 hz1 hk1 hS1 => ?_)
  obtain ⟨f9, u1, u2, u3⟩ := pl_upd hP hk1 e1 (nd2 d01) rfl
  refine kk _ _ _ _ f9 H1 locs1 u1 hS1 (AV_0 hB hk0 (pv := pv) (by have := hB.2.2.1 (by omega); rw [show q 8 k = np - 1 by omega]; exact hph _) (ss 1 k) (q 9 k)) (fun a e h hB => u2 a e h (fa_2 (fun e => hB (Or.inl e.symm)) (fun e => hB (Or.inr (Or.inl e.symm))))) ⟨?_, ?_, fun h7 => ?_, fun h8 => ?_⟩
  · rw [ns_0 hk0]; exact u3 _ (List.mem_cons_self ..) f0.1
  · rw [sets_0]; exact u3 _ (List.mem_cons_of_mem _ (List.mem_cons_self ..)) f1.1
  · rw [setq_c (by decide) (by decide)] at h7; omega
  · rw [setq_c (by decide) (by decide)] at h8; omega
set_option maxHeartbeats 1000000 in
theorem W_adv1 (hK : KG G s) (hT : ST A Z s) (hx : p.tables.exec = Jvm.exec) (hb : c.code = b_Mon_place) (hml : c.maxLocals = 5) (hown : s.vm.findClass "MetricLogMonitor" = some m.cls) (hls : ls.size = 5) (hRf : 3 ≤ R.frames) (hRl : 70 ≤ R.locals) (hRc : cells ≤ R.cells) (hRs : slots ≤ R.slots) (hP : va_P G.1 cls_all (va_pl L f) H) (hL : PD A L) (hS : va_S A s.heap H locs) (hA : ∀ q, s.heap.size ≤ q → A q) (hLG : LGf G xs np tm pv L f) (hF : ∀ j, j < n → FC G q ad CL ss L f j) (hRho : RHO rh q ad xs n) (hkn : k < n) (hW : WF n (q 0) (q 1) (q 2) (q 3) (q 4) (q 5)) (hT0 : TL np tm) (hpv : ∀ r, r < 3 → pv r < 65536) (hph : ∀ r, ph r (np - 1) = pv r) (hB : BV np tm ph q ss k) (hk0 : q 0 k = 1 ∨ q 0 k = 2) (kk : ∀ (r9 h9 : Nat) (s9 x9 : Nat → Int64) (f1 : Nat → va_E) (H1 : Heap) (locs1 : List Loc), va_P G.1 cls_all (va_pl L f1) H1 → va_S A s.heap H1 locs1 → AV np tm ph q ss k r9 h9 s9 x9 → KP L f L f1 (fun a => a = ad 0 k ∨ a = ad 1 k ∨ (8 ≤ q 0 k ∧ a = ad 2 k)) → FC G (setq q k r9 h9) ad CL (sets ss k s9 x9) L f1 k → W p l e R s m args below meth c H1 locs1 cells slots Q (F0 m 112 ls [])) :
    W p l e R s m args below meth c H locs cells slots Q (F0 m 109 ls [.ref (xs 2), .ref (ad 0 k)]) := by
  obtain ⟨w1, w2, w3, w4, w5, w6⟩ := hW.2 k hkn
  have hn12 := hW.1
  obtain ⟨f0, f1, f2, f3⟩ := hF k hkn
  obtain ⟨hG2, hG3, hG4⟩ := hLG
  obtain ⟨⟨x0, x1, x2, x3, x4, x5⟩, hr⟩ := hRho
  obtain ⟨r0, r1, r2, r3⟩ := hr k hkn
  rw [nd_1 hk0] at f0
  have d01 : ad 0 k ≠ ad 1 k := ne_rh r0 r1 (by simp)
  have hPc := pl_cons hP f0 (pl_1 hP f1)
  have hFc := wF (w := [(ad 0 k, (.inr (1, [.null, .null, .int (nI (q 6 k)), .int (nI (q 7 k)), .int (bI (CL k)), .ref (ad 1 k), .int (nI (q 8 k)), .long (cpS (decide (q 0 k = 2)) (q 2 k) (q 3 k) 16)]) : va_E)), (ad 1 k, (.inl (G.2.1 1, 24, .inr (.inl (ss 0 k))) : va_E))]) hL hA hS.1 (fa_2 f0.1 f1.1)
  refine mm_qv (mm_runU hK ⟨hx, hb, hml, hown⟩ lk_Mon_157_Compare (c_Compare_advance l G (ad 0 k) (ad 1 k) (q 8 k) .null .null (.int (nI (q 6 k))) (.int (nI (q 7 k))) (.int (bI (CL k))) (ss 0 k) (cpS (decide (q 0 k = 2)) (q 2 k) (q 3 k) 16) (xs 2) (by have := hB.2.2.1 (by omega); have := hT0.1; omega) (wD (nd2 d01)) (fun q h => absurd h List.not_mem_nil)) ⟨rfl, rfl, Nat.le_trans (by decide) hRf, Nat.le_trans (by decide) hRl⟩ (mm_rc hK hPc 0 rfl rfl) ⟨hPc, (fun k q h => by simp at h)⟩ rfl hls rfl (Nat.le_of_ble_eq_true rfl) ⟨hRc, hRs⟩ d_Mon_place_109) hS hFc (fun H1 locs1 e1 hz1 hk1 hS1 => ?_)
  obtain ⟨f9, u1, u2, u3⟩ := pl_upd hP hk1 e1 (nd2 d01) rfl
  refine kk _ _ _ _ f9 H1 locs1 u1 hS1 (AV_1 hB hk0 (ss 1 k) (q 9 k)) (fun a e h hB => u2 a e h (fa_2 (fun e => hB (Or.inl e.symm)) (fun e => hB (Or.inr (Or.inl e.symm))))) ⟨?_, ?_, fun h7 => ?_, fun h8 => ?_⟩
  · rw [ns_1 hk0]; exact u3 _ (List.mem_cons_self ..) f0.1
  · rw [sets_0]; exact u3 _ (List.mem_cons_of_mem _ (List.mem_cons_self ..)) f1.1
  · rw [setq_c (by decide) (by decide)] at h7; omega
  · rw [setq_c (by decide) (by decide)] at h8; omega
set_option maxHeartbeats 1000000 in
theorem W_adv3 (hK : KG G s) (hT : ST A Z s) (hx : p.tables.exec = Jvm.exec) (hb : c.code = b_Mon_place) (hml : c.maxLocals = 5) (hown : s.vm.findClass "MetricLogMonitor" = some m.cls) (hls : ls.size = 5) (hRf : 3 ≤ R.frames) (hRl : 70 ≤ R.locals) (hRc : cells ≤ R.cells) (hRs : slots ≤ R.slots) (hP : va_P G.1 cls_all (va_pl L f) H) (hL : PD A L) (hS : va_S A s.heap H locs) (hA : ∀ q, s.heap.size ≤ q → A q) (hLG : LGf G xs np tm pv L f) (hF : ∀ j, j < n → FC G q ad CL ss L f j) (hRho : RHO rh q ad xs n) (hkn : k < n) (hW : WF n (q 0) (q 1) (q 2) (q 3) (q 4) (q 5)) (hT0 : TL np tm) (hpv : ∀ r, r < 3 → pv r < 65536) (hph : ∀ r, ph r (np - 1) = pv r) (hB : BV np tm ph q ss k) (hk0 : q 0 k = 3) (kk : ∀ (r9 h9 : Nat) (s9 x9 : Nat → Int64) (f1 : Nat → va_E) (H1 : Heap) (locs1 : List Loc), va_P G.1 cls_all (va_pl L f1) H1 → va_S A s.heap H1 locs1 → AV np tm ph q ss k r9 h9 s9 x9 → KP L f L f1 (fun a => a = ad 0 k ∨ a = ad 1 k ∨ (8 ≤ q 0 k ∧ a = ad 2 k)) → FC G (setq q k r9 h9) ad CL (sets ss k s9 x9) L f1 k → W p l e R s m args below meth c H1 locs1 cells slots Q (F0 m 112 ls [])) :
    W p l e R s m args below meth c H locs cells slots Q (F0 m 109 ls [.ref (xs 2), .ref (ad 0 k)]) := by
  obtain ⟨w1, w2, w3, w4, w5, w6⟩ := hW.2 k hkn
  have hn12 := hW.1
  obtain ⟨f0, f1, f2, f3⟩ := hF k hkn
  obtain ⟨hG2, hG3, hG4⟩ := hLG
  obtain ⟨⟨x0, x1, x2, x3, x4, x5⟩, hr⟩ := hRho
  obtain ⟨r0, r1, r2, r3⟩ := hr k hkn
  rw [nd_3 hk0] at f0
  have d01 : ad 0 k ≠ ad 1 k := ne_rh r0 r1 (by simp)
  have hB2 := hB.2.1 (by omega)
  obtain ⟨hl0, hl1, _⟩ := hF (q 2 k) (by omega)
  have hl0 := nd_c hl0
  obtain ⟨rl0, rl1, _⟩ := hr (q 2 k) (by omega)
  have hPc := pl_cons hP f0 (pl_1 hP f1)
  have hFc := wF (w := [(ad 0 k, (.inr (2, [.ref (ad 0 (q 2 k)), .null, .int (nI (q 6 k)), .int (nI (q 7 k)), .int (bI (CL k)), .ref (ad 1 k), .int (nI (q 8 k))]) : va_E)), (ad 1 k, (.inl (G.2.1 1, 24, .inr (.inl (ss 0 k))) : va_E))]) hL hA hS.1 (fa_2 f0.1 f1.1)
  refine mm_qv (mm_runU hK ⟨hx, hb, hml, hown⟩ lk_Mon_157_Not (c_Not_advance l G (ad 0 k) (ad 1 k) (q 8 k) .null (.int (nI (q 6 k))) (.int (nI (q 7 k))) (.int (bI (CL k))) (ss 0 k) (ad 0 (q 2 k)) (clN (q 0 (q 2 k))) (clN_lt _) (va_rf (lfR q ad (q 2 k))) (va_rf (rtR q ad (q 2 k))) (.int (nI (q 6 (q 2 k)))) (.int (nI (q 7 (q 2 k)))) (.int (bI (CL (q 2 k)))) (ad 1 (q 2 k)) (q 8 (q 2 k)) (exL q ad (q 2 k)) (ss 0 (q 2 k)) (xs 2) (hB.2.2.2.1 (Or.inl hk0)) (by have := hT0.1; omega) (wD (nd2 d01)) (fa_2 (nA_w (fa_2 (ne_rh r0 rl0 (by first | (simp; done) | (simp; omega))) (ne_rh r1 rl0 (by first | (simp; done) | (simp; omega)))) (pl_lt hP hl0.1)) (nA_w (fa_2 (ne_rh r0 rl1 (by first | (simp; done) | (simp; omega))) (ne_rh r1 rl1 (by first | (simp; done) | (simp; omega)))) (pl_lt hP hl1.1)))) ⟨rfl, rfl, Nat.le_trans (by decide) hRf, Nat.le_trans (by decide) hRl⟩ (mm_rc hK hPc 0 rfl rfl) ⟨hPc, (pl_cons hP hl0 (pl_1 hP hl1))⟩ rfl hls rfl (Nat.le_of_ble_eq_true rfl) ⟨hRc, hRs⟩ d_Mon_place_109) hS hFc (fun H1 locs1 e1 hz1 hk1 hS1 => ?_)
  obtain ⟨f9, u1, u2, u3⟩ := pl_upd hP hk1 e1 (nd2 d01) rfl
  refine kk _ _ _ _ f9 H1 locs1 u1 hS1 (AV_3 hB hk0 (ss 1 k) (q 9 k)) (fun a e h hB => u2 a e h (fa_2 (fun e => hB (Or.inl e.symm)) (fun e => hB (Or.inr (Or.inl e.symm))))) ⟨?_, ?_, fun h7 => ?_, fun h8 => ?_⟩
  · rw [ns_3 hk0]; exact u3 _ (List.mem_cons_self ..) f0.1
  · rw [sets_0]; exact u3 _ (List.mem_cons_of_mem _ (List.mem_cons_self ..)) f1.1
  · rw [setq_c (by decide) (by decide)] at h7; omega
  · rw [setq_c (by decide) (by decide)] at h8; omega
set_option maxHeartbeats 1000000 in
theorem W_adv6 (hK : KG G s) (hT : ST A Z s) (hx : p.tables.exec = Jvm.exec) (hb : c.code = b_Mon_place) (hml : c.maxLocals = 5) (hown : s.vm.findClass "MetricLogMonitor" = some m.cls) (hls : ls.size = 5) (hRf : 3 ≤ R.frames) (hRl : 70 ≤ R.locals) (hRc : cells ≤ R.cells) (hRs : slots ≤ R.slots) (hP : va_P G.1 cls_all (va_pl L f) H) (hL : PD A L) (hS : va_S A s.heap H locs) (hA : ∀ q, s.heap.size ≤ q → A q) (hLG : LGf G xs np tm pv L f) (hF : ∀ j, j < n → FC G q ad CL ss L f j) (hRho : RHO rh q ad xs n) (hkn : k < n) (hW : WF n (q 0) (q 1) (q 2) (q 3) (q 4) (q 5)) (hT0 : TL np tm) (hpv : ∀ r, r < 3 → pv r < 65536) (hph : ∀ r, ph r (np - 1) = pv r) (hB : BV np tm ph q ss k) (hk0 : q 0 k = 6) (kk : ∀ (r9 h9 : Nat) (s9 x9 : Nat → Int64) (f1 : Nat → va_E) (H1 : Heap) (locs1 : List Loc), va_P G.1 cls_all (va_pl L f1) H1 → va_S A s.heap H1 locs1 → AV np tm ph q ss k r9 h9 s9 x9 → KP L f L f1 (fun a => a = ad 0 k ∨ a = ad 1 k ∨ (8 ≤ q 0 k ∧ a = ad 2 k)) → FC G (setq q k r9 h9) ad CL (sets ss k s9 x9) L f1 k → W p l e R s m args below meth c H1 locs1 cells slots Q (F0 m 112 ls [])) :
    W p l e R s m args below meth c H locs cells slots Q (F0 m 109 ls [.ref (xs 2), .ref (ad 0 k)]) := by
  obtain ⟨w1, w2, w3, w4, w5, w6⟩ := hW.2 k hkn
  have hn12 := hW.1
  obtain ⟨f0, f1, f2, f3⟩ := hF k hkn
  obtain ⟨hG2, hG3, hG4⟩ := hLG
  obtain ⟨⟨x0, x1, x2, x3, x4, x5⟩, hr⟩ := hRho
  obtain ⟨r0, r1, r2, r3⟩ := hr k hkn
  rw [nd_6 hk0] at f0
  have d01 : ad 0 k ≠ ad 1 k := ne_rh r0 r1 (by simp)
  have hB2 := hB.2.1 (by omega)
  obtain ⟨hl0, hl1, _⟩ := hF (q 2 k) (by omega)
  have hl0 := nd_c hl0
  obtain ⟨rl0, rl1, _⟩ := hr (q 2 k) (by omega)
  have hPc := pl_cons hP f0 (pl_1 hP f1)
  have hFc := wF (w := [(ad 0 k, (.inr (4, [.ref (ad 0 (q 2 k)), .null, .int (nI (q 6 k)), .int (nI (q 7 k)), .int (bI (CL k)), .ref (ad 1 k), .int (nI (q 8 k)), .int (nI (q 1 k))]) : va_E)), (ad 1 k, (.inl (G.2.1 1, 24, .inr (.inl (ss 0 k))) : va_E))]) hL hA hS.1 (fa_2 f0.1 f1.1)
  refine mm_qv (mn_runU hK hT hS hFc ⟨hx, hb, hml, hown⟩ lk_Mon_157_Exists (c_Exists_advance l G Z (ad 0 k) (ad 1 k) (q 8 k) .null (.int (nI (q 6 k))) (.int (nI (q 7 k))) (.int (bI (CL k))) (ss 0 k) (ad 0 (q 2 k)) (clN (q 0 (q 2 k))) (clN_lt _) (va_rf (lfR q ad (q 2 k))) (va_rf (rtR q ad (q 2 k))) (.int (nI (q 6 (q 2 k)))) (.int (nI (q 7 (q 2 k)))) (.int (bI (CL (q 2 k)))) (ad 1 (q 2 k)) (q 8 (q 2 k)) (exL q ad (q 2 k)) (ss 0 (q 2 k)) (q 1 k) (xs 2) (by omega) (hB.2.2.2.1 (Or.inr hk0)) (by have := hT0.1; omega) (wD (nd2 d01)) (fa_2 (nA_w (fa_2 (ne_rh r0 rl0 (by first | (simp; done) | (simp; omega))) (ne_rh r1 rl0 (by first | (simp; done) | (simp; omega)))) (pl_lt hP hl0.1)) (nA_w (fa_2 (ne_rh r0 rl1 (by first | (simp; done) | (simp; omega))) (ne_rh r1 rl1 (by first | (simp; done) | (simp; omega)))) (pl_lt hP hl1.1)))) ⟨rfl, rfl, Nat.le_trans (by decide) hRf, Nat.le_trans (by decide) hRl⟩ (mm_rc hK hPc 0 rfl rfl) ⟨hPc, (pl_cons hP hl0 (pl_1 hP hl1))⟩ rfl hls rfl (Nat.le_of_ble_eq_true rfl) ⟨hRc, hRs⟩ d_Mon_place_109) hS hFc (fun H1 locs1 e1 hz1 hk1 hS1 => ?_)
  obtain ⟨f9, u1, u2, u3⟩ := pl_upd hP hk1 e1 (nd2 d01) rfl
  refine kk _ _ _ _ f9 H1 locs1 u1 hS1 (AV_6 hB hk0 (ss 1 k) (q 9 k)) (fun a e h hB => u2 a e h (fa_2 (fun e => hB (Or.inl e.symm)) (fun e => hB (Or.inr (Or.inl e.symm))))) ⟨?_, ?_, fun h7 => ?_, fun h8 => ?_⟩
  · rw [ns_6 hk0]; exact u3 _ (List.mem_cons_self ..) f0.1
  · rw [sets_0]; exact u3 _ (List.mem_cons_of_mem _ (List.mem_cons_self ..)) f1.1
  · rw [setq_c (by decide) (by decide)] at h7; omega
  · rw [setq_c (by decide) (by decide)] at h8; omega
set_option maxHeartbeats 1000000 in
theorem W_adv7 (hK : KG G s) (hT : ST A Z s) (hx : p.tables.exec = Jvm.exec) (hb : c.code = b_Mon_place) (hml : c.maxLocals = 5) (hown : s.vm.findClass "MetricLogMonitor" = some m.cls) (hls : ls.size = 5) (hRf : 3 ≤ R.frames) (hRl : 70 ≤ R.locals) (hRc : cells ≤ R.cells) (hRs : slots ≤ R.slots) (hP : va_P G.1 cls_all (va_pl L f) H) (hL : PD A L) (hS : va_S A s.heap H locs) (hA : ∀ q, s.heap.size ≤ q → A q) (hLG : LGf G xs np tm pv L f) (hF : ∀ j, j < n → FC G q ad CL ss L f j) (hRho : RHO rh q ad xs n) (hkn : k < n) (hW : WF n (q 0) (q 1) (q 2) (q 3) (q 4) (q 5)) (hT0 : TL np tm) (hpv : ∀ r, r < 3 → pv r < 65536) (hph : ∀ r, ph r (np - 1) = pv r) (hB : BV np tm ph q ss k) (hk0 : q 0 k = 7) (kk : ∀ (r9 h9 : Nat) (s9 x9 : Nat → Int64) (f1 : Nat → va_E) (H1 : Heap) (locs1 : List Loc), va_P G.1 cls_all (va_pl L f1) H1 → va_S A s.heap H1 locs1 → AV np tm ph q ss k r9 h9 s9 x9 → KP L f L f1 (fun a => a = ad 0 k ∨ a = ad 1 k ∨ (8 ≤ q 0 k ∧ a = ad 2 k)) → FC G (setq q k r9 h9) ad CL (sets ss k s9 x9) L f1 k → W p l e R s m args below meth c H1 locs1 cells slots Q (F0 m 112 ls [])) :
    W p l e R s m args below meth c H locs cells slots Q (F0 m 109 ls [.ref (xs 2), .ref (ad 0 k)]) := by
  obtain ⟨w1, w2, w3, w4, w5, w6⟩ := hW.2 k hkn
  have hn12 := hW.1
  obtain ⟨f0, f1, f2, f3⟩ := hF k hkn
  obtain ⟨hG2, hG3, hG4⟩ := hLG
  obtain ⟨⟨x0, x1, x2, x3, x4, x5⟩, hr⟩ := hRho
  obtain ⟨r0, r1, r2, r3⟩ := hr k hkn
  rw [nd_7 hk0] at f0
  have hiv := f2 (by omega)
  have r3 := r3 (by omega)
  have d01 : ad 0 k ≠ ad 1 k := ne_rh r0 r1 (by simp)
  have hB2 := hB.2.1 (by omega)
  obtain ⟨hl0, hl1, _⟩ := hF (q 2 k) (by omega)
  have hl0 := nd_c hl0
  obtain ⟨rl0, rl1, _⟩ := hr (q 2 k) (by omega)
  have hPc := pl_cons hP f0 (pl_1 hP f1)
  have hFc := wF (w := [(ad 0 k, (.inr (5, [.ref (ad 0 (q 2 k)), .null, .int (nI (q 6 k)), .int (nI (q 7 k)), .int (bI (CL k)), .ref (ad 1 k), .int (nI (q 8 k)), .ref (ad 3 k)]) : va_E)), (ad 1 k, (.inl (G.2.1 1, 24, .inr (.inl (ss 0 k))) : va_E))]) hL hA hS.1 (fa_2 f0.1 f1.1)
  refine mm_qv (mm_runU hK ⟨hx, hb, hml, hown⟩ lk_Mon_157_Previous (c_Previous_advance l G (ad 0 k) (ad 1 k) (q 8 k) .null (.int (nI (q 6 k))) (.int (nI (q 7 k))) (.int (bI (CL k))) (ss 0 k) (ad 0 (q 2 k)) (clN (q 0 (q 2 k))) (clN_lt _) (va_rf (lfR q ad (q 2 k))) (va_rf (rtR q ad (q 2 k))) (.int (nI (q 6 (q 2 k)))) (.int (nI (q 7 (q 2 k)))) (.int (bI (CL (q 2 k)))) (ad 1 (q 2 k)) (q 8 (q 2 k)) (exL q ad (q 2 k)) (ss 0 (q 2 k)) (xs 2) (xs 3) (xs 4) np tm pv (ad 3 k) (q 4 k) (q 5 k) hT0 (by omega) (by omega) (hB.2.2.2.2.2.1 hk0) hB2.2.2.1 (wD (nd2 d01)) (fa_6 (nA_w (fa_2 (ne_rh r0 rl0 (by first | (simp; done) | (simp; omega))) (ne_rh r1 rl0 (by first | (simp; done) | (simp; omega)))) (pl_lt hP hl0.1)) (nA_w (fa_2 (ne_rh r0 rl1 (by first | (simp; done) | (simp; omega))) (ne_rh r1 rl1 (by first | (simp; done) | (simp; omega)))) (pl_lt hP hl1.1)) (nA_w (fa_2 (ne_rh r0 x2 (by first | (simp; done) | (simp; omega))) (ne_rh r1 x2 (by first | (simp; done) | (simp; omega)))) (pl_lt hP hG2.1)) (nA_w (fa_2 (ne_rh r0 x3 (by first | (simp; done) | (simp; omega))) (ne_rh r1 x3 (by first | (simp; done) | (simp; omega)))) (pl_lt hP hG3.1)) (nA_w (fa_2 (ne_rh r0 x4 (by first | (simp; done) | (simp; omega))) (ne_rh r1 x4 (by first | (simp; done) | (simp; omega)))) (pl_lt hP hG4.1)) (nA_w (fa_2 (ne_rh r0 r3 (by simp)) (ne_rh r1 r3 (by simp))) (pl_lt hP hiv.1)))) ⟨rfl, rfl, Nat.le_trans (by decide) hRf, Nat.le_trans (by decide) hRl⟩ (mm_rc hK hPc 0 rfl rfl) ⟨hPc, (pl_cons hP hl0 (pl_cons hP hl1 (pl_cons hP hG2 (pl_cons hP hG3 (pl_cons hP hG4 (pl_1 hP hiv))))))⟩ rfl hls rfl (Nat.le_of_ble_eq_true rfl) ⟨hRc, hRs⟩ d_Mon_place_109) hS hFc (fun H1 locs1 e1 hz1 hk1 hS1 => ?_)
  obtain ⟨f9, u1, u2, u3⟩ := pl_upd hP hk1 e1 (nd2 d01) rfl
  refine kk _ _ _ _ f9 H1 locs1 u1 hS1 (AV_7 hB hk0 (ss 1 k) (q 9 k)) (fun a e h hB => u2 a e h (fa_2 (fun e => hB (Or.inl e.symm)) (fun e => hB (Or.inr (Or.inl e.symm))))) ⟨?_, ?_, fun h7 => ?_, fun h8 => ?_⟩
  · rw [ns_7 hk0]; exact u3 _ (List.mem_cons_self ..) f0.1
  · rw [sets_0]; exact u3 _ (List.mem_cons_of_mem _ (List.mem_cons_self ..)) f1.1
  · rw [setq_c (by decide) (by decide), setq_c (by decide) (by decide)]; exact u2 _ _ hiv (fa_2 (ne_rh r0 r3 (by simp)) (ne_rh r1 r3 (by simp)))
  · rw [setq_c (by decide) (by decide)] at h8; omega
set_option maxHeartbeats 1000000 in
theorem W_adv8 (hK : KG G s) (hT : ST A Z s) (hx : p.tables.exec = Jvm.exec) (hb : c.code = b_Mon_place) (hml : c.maxLocals = 5) (hown : s.vm.findClass "MetricLogMonitor" = some m.cls) (hls : ls.size = 5) (hRf : 3 ≤ R.frames) (hRl : 70 ≤ R.locals) (hRc : cells ≤ R.cells) (hRs : slots ≤ R.slots) (hP : va_P G.1 cls_all (va_pl L f) H) (hL : PD A L) (hS : va_S A s.heap H locs) (hA : ∀ q, s.heap.size ≤ q → A q) (hLG : LGf G xs np tm pv L f) (hF : ∀ j, j < n → FC G q ad CL ss L f j) (hRho : RHO rh q ad xs n) (hkn : k < n) (hW : WF n (q 0) (q 1) (q 2) (q 3) (q 4) (q 5)) (hT0 : TL np tm) (hpv : ∀ r, r < 3 → pv r < 65536) (hph : ∀ r, ph r (np - 1) = pv r) (hB : BV np tm ph q ss k) (hk0 : q 0 k = 8) (kk : ∀ (r9 h9 : Nat) (s9 x9 : Nat → Int64) (f1 : Nat → va_E) (H1 : Heap) (locs1 : List Loc), va_P G.1 cls_all (va_pl L f1) H1 → va_S A s.heap H1 locs1 → AV np tm ph q ss k r9 h9 s9 x9 → KP L f L f1 (fun a => a = ad 0 k ∨ a = ad 1 k ∨ (8 ≤ q 0 k ∧ a = ad 2 k)) → FC G (setq q k r9 h9) ad CL (sets ss k s9 x9) L f1 k → W p l e R s m args below meth c H1 locs1 cells slots Q (F0 m 112 ls [])) :
    W p l e R s m args below meth c H locs cells slots Q (F0 m 109 ls [.ref (xs 2), .ref (ad 0 k)]) := by
  obtain ⟨w1, w2, w3, w4, w5, w6⟩ := hW.2 k hkn
  have hn12 := hW.1
  obtain ⟨f0, f1, f2, f3⟩ := hF k hkn
  obtain ⟨hG2, hG3, hG4⟩ := hLG
  obtain ⟨⟨x0, x1, x2, x3, x4, x5⟩, hr⟩ := hRho
  obtain ⟨r0, r1, r2, r3⟩ := hr k hkn
  rw [nd_8 hk0] at f0
  have f2 := f2 (by omega)
  have f3 := f3 (by omega)
  have r2 := r2 (by omega)
  have hiv := f2
  have d02 : ad 0 k ≠ ad 2 k := ne_rh r0 r2 (by simp)
  have d12 : ad 1 k ≠ ad 2 k := ne_rh r1 r2 (by simp)
  have r3 := r3 (by omega)
  have d01 : ad 0 k ≠ ad 1 k := ne_rh r0 r1 (by simp)
  have hB2 := hB.2.1 (by omega)
  obtain ⟨hl0, hl1, _⟩ := hF (q 2 k) (by omega)
  have hl0 := nd_c hl0
  obtain ⟨rl0, rl1, _⟩ := hr (q 2 k) (by omega)
  obtain ⟨hr0, hr1, _⟩ := hF (q 3 k) (by omega)
  have hr0 := nd_c hr0
  obtain ⟨rr0, rr1, _⟩ := hr (q 3 k) (by omega)
  have hPc := pl_cons hP f0 (pl_cons hP f1 (pl_1 hP f3))
  have hFc := wF (w := [(ad 0 k, (.inr (6, [.ref (ad 0 (q 2 k)), .ref (ad 0 (q 3 k)), .int (nI (q 6 k)), .int (nI (q 7 k)), .int (bI (CL k)), .ref (ad 1 k), .int (nI (q 8 k)), .ref (ad 3 k), .ref (ad 2 k), .int (nI (q 9 k))]) : va_E)), (ad 1 k, (.inl (G.2.1 1, 24, .inr (.inl (ss 0 k))) : va_E)), (ad 2 k, (.inl (G.2.1 1, 24, .inr (.inl (ss 1 k))) : va_E))]) hL hA hS.1 (fa_3 f0.1 f1.1 f3.1)
  refine mm_qv (mm_runU hK ⟨hx, hb, hml, hown⟩ lk_Mon_157_Since (c_Since_advance l G (ad 0 k) (ad 1 k) (q 8 k) (.int (nI (q 6 k))) (.int (nI (q 7 k))) (.int (bI (CL k))) (ss 0 k) (ss 1 k) (ad 2 k) (q 9 k) (ad 0 (q 2 k)) (clN (q 0 (q 2 k))) (clN_lt _) (va_rf (lfR q ad (q 2 k))) (va_rf (rtR q ad (q 2 k))) (.int (nI (q 6 (q 2 k)))) (.int (nI (q 7 (q 2 k)))) (.int (bI (CL (q 2 k)))) (ad 1 (q 2 k)) (q 8 (q 2 k)) (exL q ad (q 2 k)) (ss 0 (q 2 k)) (ad 0 (q 3 k)) (clN (q 0 (q 3 k))) (clN_lt _) (va_rf (lfR q ad (q 3 k))) (va_rf (rtR q ad (q 3 k))) (.int (nI (q 6 (q 3 k)))) (.int (nI (q 7 (q 3 k)))) (.int (bI (CL (q 3 k)))) (ad 1 (q 3 k)) (q 8 (q 3 k)) (exL q ad (q 3 k)) (ss 0 (q 3 k)) (xs 2) (xs 3) (xs 4) np tm pv (ad 3 k) (q 4 k) (q 5 k) hT0 (by omega) (by omega) (hB.2.2.2.2.1 (by omega)) hB2.2.2.1 hB2.2.2.2 (hB.1.2.2.2.2.2.2.1 hk0).2 (wD (nd3 d01 d02 d12)) (fa_8 (nA_w (fa_3 (ne_rh r0 rl0 (by first | (simp; done) | (simp; omega))) (ne_rh r1 rl0 (by first | (simp; done) | (simp; omega))) (ne_rh r2 rl0 (by first | (simp; done) | (simp; omega)))) (pl_lt hP hl0.1)) (nA_w (fa_3 (ne_rh r0 rl1 (by first | (simp; done) | (simp; omega))) (ne_rh r1 rl1 (by first | (simp; done) | (simp; omega))) (ne_rh r2 rl1 (by first | (simp; done) | (simp; omega)))) (pl_lt hP hl1.1)) (nA_w (fa_3 (ne_rh r0 rr0 (by first | (simp; done) | (simp; omega))) (ne_rh r1 rr0 (by first | (simp; done) | (simp; omega))) (ne_rh r2 rr0 (by first | (simp; done) | (simp; omega)))) (pl_lt hP hr0.1)) (nA_w (fa_3 (ne_rh r0 rr1 (by first | (simp; done) | (simp; omega))) (ne_rh r1 rr1 (by first | (simp; done) | (simp; omega))) (ne_rh r2 rr1 (by first | (simp; done) | (simp; omega)))) (pl_lt hP hr1.1)) (nA_w (fa_3 (ne_rh r0 x2 (by first | (simp; done) | (simp; omega))) (ne_rh r1 x2 (by first | (simp; done) | (simp; omega))) (ne_rh r2 x2 (by first | (simp; done) | (simp; omega)))) (pl_lt hP hG2.1)) (nA_w (fa_3 (ne_rh r0 x3 (by first | (simp; done) | (simp; omega))) (ne_rh r1 x3 (by first | (simp; done) | (simp; omega))) (ne_rh r2 x3 (by first | (simp; done) | (simp; omega)))) (pl_lt hP hG3.1)) (nA_w (fa_3 (ne_rh r0 x4 (by first | (simp; done) | (simp; omega))) (ne_rh r1 x4 (by first | (simp; done) | (simp; omega))) (ne_rh r2 x4 (by first | (simp; done) | (simp; omega)))) (pl_lt hP hG4.1)) (nA_w (fa_3 (ne_rh r0 r3 (by simp)) (ne_rh r1 r3 (by simp)) (ne_rh r2 r3 (by simp))) (pl_lt hP hiv.1)))) ⟨rfl, rfl, Nat.le_trans (by decide) hRf, Nat.le_trans (by decide) hRl⟩ (mm_rc hK hPc 0 rfl rfl) ⟨hPc, (pl_cons hP hl0 (pl_cons hP hl1 (pl_cons hP hr0 (pl_cons hP hr1 (pl_cons hP hG2 (pl_cons hP hG3 (pl_cons hP hG4 (pl_1 hP hiv))))))))⟩ rfl hls rfl (Nat.le_of_ble_eq_true rfl) ⟨hRc, hRs⟩ d_Mon_place_109) hS hFc (fun H1 locs1 e1 hz1 hk1 hS1 => ?_)
  obtain ⟨h9, x9, hI9, e1⟩ := e1
  obtain ⟨f9, u1, u2, u3⟩ := pl_upd hP hk1 e1 (nd3 d01 d02 d12) rfl
  refine kk _ _ _ _ f9 H1 locs1 u1 hS1 (AV_8 hB hk0 hI9) (fun a e h hB => u2 a e h (fa_3 (fun e => hB (Or.inl e.symm)) (fun e => hB (Or.inr (Or.inl e.symm))) (fun e => hB (Or.inr (Or.inr ⟨by omega, e.symm⟩))))) ⟨?_, ?_, fun h7 => ?_, fun h8 => ?_⟩
  · rw [ns_8 hk0]; exact u3 _ (List.mem_cons_self ..) f0.1
  · rw [sets_0]; exact u3 _ (List.mem_cons_of_mem _ (List.mem_cons_self ..)) f1.1
  · rw [setq_c (by decide) (by decide), setq_c (by decide) (by decide)]; exact u2 _ _ hiv (fa_3 (ne_rh r0 r3 (by simp)) (ne_rh r1 r3 (by simp)) (ne_rh r2 r3 (by simp)))
  · rw [sets_1]; exact u3 _ (List.mem_cons_of_mem _ (List.mem_cons_of_mem _ (List.mem_cons_self ..))) f3.1
set_option maxHeartbeats 1000000 in
theorem W_adv9 (hK : KG G s) (hT : ST A Z s) (hx : p.tables.exec = Jvm.exec) (hb : c.code = b_Mon_place) (hml : c.maxLocals = 5) (hown : s.vm.findClass "MetricLogMonitor" = some m.cls) (hls : ls.size = 5) (hRf : 3 ≤ R.frames) (hRl : 70 ≤ R.locals) (hRc : cells ≤ R.cells) (hRs : slots ≤ R.slots) (hP : va_P G.1 cls_all (va_pl L f) H) (hL : PD A L) (hS : va_S A s.heap H locs) (hA : ∀ q, s.heap.size ≤ q → A q) (hLG : LGf G xs np tm pv L f) (hF : ∀ j, j < n → FC G q ad CL ss L f j) (hRho : RHO rh q ad xs n) (hkn : k < n) (hW : WF n (q 0) (q 1) (q 2) (q 3) (q 4) (q 5)) (hT0 : TL np tm) (hpv : ∀ r, r < 3 → pv r < 65536) (hph : ∀ r, ph r (np - 1) = pv r) (hB : BV np tm ph q ss k) (hk0 : q 0 k = 9) (kk : ∀ (r9 h9 : Nat) (s9 x9 : Nat → Int64) (f1 : Nat → va_E) (H1 : Heap) (locs1 : List Loc), va_P G.1 cls_all (va_pl L f1) H1 → va_S A s.heap H1 locs1 → AV np tm ph q ss k r9 h9 s9 x9 → KP L f L f1 (fun a => a = ad 0 k ∨ a = ad 1 k ∨ (8 ≤ q 0 k ∧ a = ad 2 k)) → FC G (setq q k r9 h9) ad CL (sets ss k s9 x9) L f1 k → W p l e R s m args below meth c H1 locs1 cells slots Q (F0 m 112 ls [])) :
    W p l e R s m args below meth c H locs cells slots Q (F0 m 109 ls [.ref (xs 2), .ref (ad 0 k)]) := by
  obtain ⟨w1, w2, w3, w4, w5, w6⟩ := hW.2 k hkn
  have hn12 := hW.1
  obtain ⟨f0, f1, f2, f3⟩ := hF k hkn
  obtain ⟨hG2, hG3, hG4⟩ := hLG
  obtain ⟨⟨x0, x1, x2, x3, x4, x5⟩, hr⟩ := hRho
  obtain ⟨r0, r1, r2, r3⟩ := hr k hkn
  rw [nd_9 hk0] at f0
  have f2 := f2 (by omega)
  have f3 := f3 (by omega)
  have r2 := r2 (by omega)
  have hiv := f2
  have d02 : ad 0 k ≠ ad 2 k := ne_rh r0 r2 (by simp)
  have d12 : ad 1 k ≠ ad 2 k := ne_rh r1 r2 (by simp)
  have r3 := r3 (by omega)
  have d01 : ad 0 k ≠ ad 1 k := ne_rh r0 r1 (by simp)
  have hB2 := hB.2.1 (by omega)
  obtain ⟨hl0, hl1, _⟩ := hF (q 2 k) (by omega)
  have hl0 := nd_c hl0
  obtain ⟨rl0, rl1, _⟩ := hr (q 2 k) (by omega)
  obtain ⟨hr0, hr1, _⟩ := hF (q 3 k) (by omega)
  have hr0 := nd_c hr0
  obtain ⟨rr0, rr1, _⟩ := hr (q 3 k) (by omega)
  have hB9 := hB.2.2.2.2.2.2 hk0
  have hPc := pl_cons hP f0 (pl_cons hP f1 (pl_1 hP f3))
  have hFc := wF (w := [(ad 0 k, (.inr (7, [.ref (ad 0 (q 2 k)), .ref (ad 0 (q 3 k)), .int (nI (q 6 k)), .int (nI (q 7 k)), .int (bI (CL k)), .ref (ad 1 k), .int (nI (q 8 k)), .ref (ad 3 k), .ref (ad 2 k), .int (nI (q 9 k))]) : va_E)), (ad 1 k, (.inl (G.2.1 1, 24, .inr (.inl (ss 0 k))) : va_E)), (ad 2 k, (.inl (G.2.1 1, 24, .inr (.inl (ss 1 k))) : va_E))]) hL hA hS.1 (fa_3 f0.1 f1.1 f3.1)
  refine mm_qv (mm_runU hK ⟨hx, hb, hml, hown⟩ lk_Mon_157_Until (c_Until_advance l G (ad 0 k) (ad 1 k) (q 8 k) (.int (nI (q 6 k))) (.int (nI (q 7 k))) (.int (bI (CL k))) (ss 0 k) (ss 1 k) (ad 2 k) (q 9 k) (ad 0 (q 2 k)) (clN (q 0 (q 2 k))) (clN_lt _) (va_rf (lfR q ad (q 2 k))) (va_rf (rtR q ad (q 2 k))) (.int (nI (q 6 (q 2 k)))) (.int (nI (q 7 (q 2 k)))) (.int (bI (CL (q 2 k)))) (ad 1 (q 2 k)) (q 8 (q 2 k)) (exL q ad (q 2 k)) (ss 0 (q 2 k)) (ad 0 (q 3 k)) (clN (q 0 (q 3 k))) (clN_lt _) (va_rf (lfR q ad (q 3 k))) (va_rf (rtR q ad (q 3 k))) (.int (nI (q 6 (q 3 k)))) (.int (nI (q 7 (q 3 k)))) (.int (bI (CL (q 3 k)))) (ad 1 (q 3 k)) (q 8 (q 3 k)) (exL q ad (q 3 k)) (ss 0 (q 3 k)) (xs 2) (xs 3) (xs 4) np tm pv (ad 3 k) (q 4 k) (q 5 k) hT0 (by omega) (by omega) hB2.2.2.1 hB2.2.2.2 (hB.1.2.2.2.2.2.2.2 hk0).2 hB9.1 hB9.2.1 hB9.2.2.1 hB9.2.2.2.1 (wD (nd3 d01 d02 d12)) (fa_8 (nA_w (fa_3 (ne_rh r0 rl0 (by first | (simp; done) | (simp; omega))) (ne_rh r1 rl0 (by first | (simp; done) | (simp; omega))) (ne_rh r2 rl0 (by first | (simp; done) | (simp; omega)))) (pl_lt hP hl0.1)) (nA_w (fa_3 (ne_rh r0 rl1 (by first | (simp; done) | (simp; omega))) (ne_rh r1 rl1 (by first | (simp; done) | (simp; omega))) (ne_rh r2 rl1 (by first | (simp; done) | (simp; omega)))) (pl_lt hP hl1.1)) (nA_w (fa_3 (ne_rh r0 rr0 (by first | (simp; done) | (simp; omega))) (ne_rh r1 rr0 (by first | (simp; done) | (simp; omega))) (ne_rh r2 rr0 (by first | (simp; done) | (simp; omega)))) (pl_lt hP hr0.1)) (nA_w (fa_3 (ne_rh r0 rr1 (by first | (simp; done) | (simp; omega))) (ne_rh r1 rr1 (by first | (simp; done) | (simp; omega))) (ne_rh r2 rr1 (by first | (simp; done) | (simp; omega)))) (pl_lt hP hr1.1)) (nA_w (fa_3 (ne_rh r0 x2 (by first | (simp; done) | (simp; omega))) (ne_rh r1 x2 (by first | (simp; done) | (simp; omega))) (ne_rh r2 x2 (by first | (simp; done) | (simp; omega)))) (pl_lt hP hG2.1)) (nA_w (fa_3 (ne_rh r0 x3 (by first | (simp; done) | (simp; omega))) (ne_rh r1 x3 (by first | (simp; done) | (simp; omega))) (ne_rh r2 x3 (by first | (simp; done) | (simp; omega)))) (pl_lt hP hG3.1)) (nA_w (fa_3 (ne_rh r0 x4 (by first | (simp; done) | (simp; omega))) (ne_rh r1 x4 (by first | (simp; done) | (simp; omega))) (ne_rh r2 x4 (by first | (simp; done) | (simp; omega)))) (pl_lt hP hG4.1)) (nA_w (fa_3 (ne_rh r0 r3 (by simp)) (ne_rh r1 r3 (by simp)) (ne_rh r2 r3 (by simp))) (pl_lt hP hiv.1)))) ⟨rfl, rfl, Nat.le_trans (by decide) hRf, Nat.le_trans (by decide) hRl⟩ (mm_rc hK hPc 0 rfl rfl) ⟨hPc, (pl_cons hP hl0 (pl_cons hP hl1 (pl_cons hP hr0 (pl_cons hP hr1 (pl_cons hP hG2 (pl_cons hP hG3 (pl_cons hP hG4 (pl_1 hP hiv))))))))⟩ rfl hls rfl (Nat.le_of_ble_eq_true rfl) ⟨hRc, hRs⟩ d_Mon_place_109) hS hFc (fun H1 locs1 e1 hz1 hk1 hS1 => ?_)
  obtain ⟨r9, s9, x9, p1, p2, p3, p4, p5, e1⟩ := e1
  obtain ⟨f9, u1, u2, u3⟩ := pl_upd hP hk1 e1 (nd3 d01 d02 d12) rfl
  refine kk _ _ _ _ f9 H1 locs1 u1 hS1 (AV_9 hB hT0 hk0 p1 p2 p3 p4 p5) (fun a e h hB => u2 a e h (fa_3 (fun e => hB (Or.inl e.symm)) (fun e => hB (Or.inr (Or.inl e.symm))) (fun e => hB (Or.inr (Or.inr ⟨by omega, e.symm⟩))))) ⟨?_, ?_, fun h7 => ?_, fun h8 => ?_⟩
  · rw [ns_9 hk0]; exact u3 _ (List.mem_cons_self ..) f0.1
  · rw [sets_0]; exact u3 _ (List.mem_cons_of_mem _ (List.mem_cons_self ..)) f1.1
  · rw [setq_c (by decide) (by decide), setq_c (by decide) (by decide)]; exact u2 _ _ hiv (fa_3 (ne_rh r0 r3 (by simp)) (ne_rh r1 r3 (by simp)) (ne_rh r2 r3 (by simp)))
  · rw [sets_1]; exact u3 _ (List.mem_cons_of_mem _ (List.mem_cons_of_mem _ (List.mem_cons_self ..))) f3.1
end ADV
