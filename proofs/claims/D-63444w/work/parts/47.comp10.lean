set_option maxHeartbeats 4000000 in
set_option maxRecDepth 100000 in
theorem c_Mon_begin (l : Launch) (G : mm_G) {A : Nat → Prop} (Z : Nat × Nat) (L : List Nat) (f : Nat → va_E) (xs : Nat → Nat) (n : Nat) (wt : Bool) (np : Nat) (tm pv : Nat → Nat) (q ad : Nat → Nat → Nat) (CL : Nat → Bool) (ss : Nat → Nat → Nat → Int64) (rh : Nat → Nat × Nat) (hC : CI G Z xs n wt np tm pv q ad CL ss rh L f) (hn12 : n ≤ 12) (hq9 : ∀ k, k < n → q 0 k ≤ 9) : Met l y_Mon_begin [.code y_Mon_begin b_Mon_begin 2 none] { frames := 3, cells := 0, slots := 0, locals := 70 } (mm_Pre G [.ref (xs 0)] (fun H => PO G A L f H ∧ (∀ q, H.size ≤ q → A q))) (mm_Qv (fun H => RSP G A Z xs n wt tm q ad CL ss rh L H) A) 0 0 A := by
  refine mm_of (by decide) (Nat.le_of_ble_eq_true rfl) ?_
  intro p e s m below meth c ls hx hb hr hk hml hown hnm hK h0 hl
  have hl : lv_has ls 2 [(0, .ref (xs 0))] := hl
  obtain ⟨⟨hP, hL⟩, hA⟩ := h0
  have hS : va_S A s.heap s.heap [] := va_S.rf
  have hX : PLc L f (xs 0) (.inr (10, [.ref (xs 1), .ref (xs 2), .int (bI wt)])) := hC.1
  refine lv_aload_n hx hb d_Mon_begin_0 rfl (lv_at hl 0 rfl) ?_
  refine mm_get (v := .ref (xs 2)) hK hx hb hown lg_Mon_25 (pl_1 hP hX) 0 rfl rfl d_Mon_begin_1 ?_
  obtain ⟨hG2, hG3, hG4⟩ := hC.2.2.1
  obtain ⟨_, _, x2, x3, x4, _⟩ := hC.2.2.2.2.1
  have dn := @nd3 (xs 2) (xs 3) (xs 4)
  have hPc := pl_cons hP hG2 (pl_cons hP hG3 (pl_1 hP hG4))
  have hFc := wF (w := [(xs 2, (.inr (9, [.ref (xs 3), .int (nI np), .ref (xs 4)]) : va_E)), (xs 3, .inl (G.2.1 0, 24, .inl (nA tm))), (xs 4, .inl (G.2.1 2, 3, .inl (nA pv)))]) hL hA hS.1 (fa_3 hG2.1 hG3.1 hG4.1)
  refine mm_qv (mm_runV hK ⟨hx, hb, hml, hown⟩ lk_Mon_120 (c_Log_empty l G (xs 2) (xs 3) (xs 4) np tm pv (wD (nd3 (ne_rh x2 x3 (by simp)) (ne_rh x2 x4 (by simp)) (ne_rh x3 x4 (by simp))))) ⟨rfl, rfl, by decide, by decide⟩ (mm_rc hK hPc 0 rfl rfl) hPc rfl hl.1 rfl (Nat.le_of_ble_eq_true rfl) ⟨by decide, by decide⟩ d_Mon_begin_4) hS hFc (fun H1 locs e4 hz1 hk1 hS => ?_)
  obtain ⟨pv4, hpv4, e4⟩ := e4
  obtain ⟨f4, u1, u2, u3⟩ := pl_upd hP hk1 e4 (nd3 (ne_rh x2 x3 (by simp)) (ne_rh x2 x4 (by simp)) (ne_rh x3 x4 (by simp))) rfl
  have hC := CI_log hC hn12 (fun a e h hB => u2 a e h (fa_3 (fun e => hB (Or.inl e.symm)) (fun e => hB (Or.inr (Or.inl e.symm))) (fun e => hB (Or.inr (Or.inr e.symm))))) ⟨u3 _ (List.mem_cons_self ..) hG2.1, u3 _ (List.mem_cons_of_mem _ (List.mem_cons_self ..)) hG3.1, u3 _ (List.mem_cons_of_mem _ (List.mem_cons_of_mem _ (List.mem_cons_self ..))) hG4.1⟩
  have hP := u1
  obtain ⟨H, rfl⟩ : ∃ H9, H9 = H1 := ⟨_, rfl⟩
  have hX : PLc L f4 (xs 0) (.inr (10, [.ref (xs 1), .ref (xs 2), .int (bI wt)])) := hC.1
  refine lv_iconst hx hb d_Mon_begin_7 ci_0 ?_
  refine lv_istore_n (lv' := [(1, .int (nI 0)), (0, .ref (xs 0))]) hx hb d_Mon_begin_8 rfl hl (by decide) rfl (fun ls hl => ?_)
  refine mm_loop (σ := Nat × (Nat → va_E) × (Nat → Nat → Nat)) (fun x ls H locs => match x with | (k, f1, q1) => lv_has ls 2 [(1, .int (nI k)), (0, .ref (xs 0))] ∧ va_P G.1 cls_all (va_pl L f1) H ∧ va_S A s.heap H locs ∧ BI G Z xs n wt 0 tm pv4 q ad CL ss rh L k f1 q1) (fun x => match x with | (k, _, _) => n - k) ?_ (0, f4, q) _ _ _ ⟨lv_sub hl [0, 1] rfl, hP, hS, hC, fun _ _ _ => rfl, fun j h => absurd h (Nat.not_lt_zero j), Nat.zero_le _⟩
  rintro ⟨k, f1, q1⟩ ls H locs ⟨hl, hP, hS, hI⟩ ih9
  have hC := hI.1
  have hX : PLc L f1 (xs 0) (.inr (10, [.ref (xs 1), .ref (xs 2), .int (bI wt)])) := hC.1
  have hkn := hI.2.2.2
  obtain ⟨v0, v2, hla⟩ := hC.2.1.la
  refine lv_iload_n hx hb d_Mon_begin_9 rfl (lv_at hl 0 rfl) ?_
  refine lv_aload_n hx hb d_Mon_begin_10 rfl (lv_at hl 1 rfl) ?_
  refine mm_get (v := .ref (xs 1)) hK hx hb hown lg_Mon_18 (pl_1 hP hX) 0 rfl rfl d_Mon_begin_11 ?_
  refine mm_si (mm_runV hK ⟨hx, hb, hml, hown⟩ lk_Mon_29 (c_AL_size l G (xs 1) v0 v2 n) ⟨rfl, rfl, by decide, by decide⟩ (mm_rc hK (pl_1 hP hla) 0 rfl rfl) (pl_1 hP hla) rfl hl.1 rfl (Nat.le_of_ble_eq_true rfl) ⟨by decide, by decide⟩ d_Mon_begin_14) (fun r14 e14 => ?_)
  subst e14
  refine lv_icmp_ge hx hb d_Mon_begin_17 (tgt := 40) (by decide) (fun c17 => ?_) (fun c17 => ?_)
  · have c17 : k ≥ n := nb_get (by omega) (by omega) c17
    exact mm_vrQ hx hb hr hk hS d_Mon_begin_40 ⟨f1, pv4, q1, ⟨hP, hL⟩, hpv4, hI.2.1, fun j hj => hI.2.2.1 j (by omega), hC⟩
  · have c17 : k < n := nb_gef (by omega) (by omega) c17
    refine lv_aload_n hx hb d_Mon_begin_20 rfl (lv_at hl 1 rfl) ?_
    refine mm_get (v := .ref (xs 1)) hK hx hb hown lg_Mon_18 (pl_1 hP hX) 0 rfl rfl d_Mon_begin_21 ?_
    refine lv_iload_n hx hb d_Mon_begin_24 rfl (lv_at hl 0 rfl) ?_
    obtain ⟨mcn, cap, g, g1, g2, g3, g4, g5⟩ := hC.2.1.full (by omega)
    refine mm_sq (mm_runV hK ⟨hx, hb, hml, hown⟩ lk_Mon_33 (c_AL_get l G (xs 1) (xs 5) cap n mcn g k c17 g2 g1) ⟨rfl, rfl, by decide, by decide⟩ (mm_rc hK (pl_1 hP g3) 0 rfl rfl) (pl_cons hP g3 (pl_1 hP g4)) rfl hl.1 rfl (Nat.le_of_ble_eq_true rfl) ⟨by decide, by decide⟩ d_Mon_begin_25) (fun r25 e25 => ?_)
    subst e25
    refine mm_tv (show va_rf (g k) = .ref (ad 0 k) by rw [g5 k c17]; rfl) ?_
    have hNk := nd_c (hC.2.2.2.1 k c17).1
    refine mm_castF hK hx hb hown kw_366 (pl_at hP hNk) (clN_lt _) d_Mon_begin_28 ?_
    refine W_res hK hx hb hml hown hl.1 (by decide) (by decide) (by decide) (by decide) hP hL hS hA (hC.2.2.2.1 k c17).1 (by rw [hI.2.1 0 (by decide) (by decide)]; exact hq9 k c17) (fun f2 H locs hP hS hKP hN hO => ?_)
    refine lv_iinc (k := 0) (v := nI (k + 1)) (lv' := [(1, .int (nI (k + 1))), (0, .ref (xs 0))]) hx hb d_Mon_begin_34 hl rfl (inc1 _) (by decide) rfl (fun ls hl => ?_)
    refine lv_goto hx hb d_Mon_begin_37 (tgt := 9) (by decide) ?_
    exact ih9 (k + 1, f2, setq q1 k 0 0) _ _ _ ⟨lv_sub hl [0, 1] rfl, hP, hS, BI_s hI hn12 c17 hKP hN hO⟩ (by dsimp only; omega)
