set_option maxHeartbeats 4000000 in
set_option maxRecDepth 100000 in
theorem c_Mon_watch (l : Launch) (G : mm_G) {A : Nat → Prop} (Z : Nat × Nat) (L : List Nat) (f : Nat → va_E) (xs : Nat → Nat) (n : Nat) (wt : Bool) (np : Nat) (tm pv : Nat → Nat) (q ad : Nat → Nat → Nat) (CL : Nat → Bool) (ss : Nat → Nat → Nat → Int64) (rh : Nat → Nat × Nat) (hC : CI G Z xs n wt np tm pv q ad CL ss rh L f) (hn12 : n ≤ 12) (hq9 : ∀ k, k < n → q 0 k ≤ 9) : Met l y_Mon_watch [.code y_Mon_watch b_Mon_watch 1 (some .boolean)] { frames := 4, cells := 0, slots := 0, locals := 91 } (mm_Pre G [.ref (xs 0)] (fun H => PO G A L f H ∧ (∀ q, H.size ≤ q → A q))) (mm_Qi (fun r H => ((wt = false ∧ n ≠ 0) → r = bI true ∧ RSP G A Z xs n true tm q ad CL ss rh L H) ∧ (¬ (wt = false ∧ n ≠ 0) → r = bI false ∧ PO G A L f H)) A) 0 0 A := by
  refine mm_of (by decide) (Nat.le_of_ble_eq_true rfl) ?_
  intro p e s m below meth c ls hx hb hr hk hml hown hnm hK h0 hl
  have hl : lv_has ls 1 [(0, .ref (xs 0))] := hl
  obtain ⟨⟨hP, hL⟩, hA⟩ := h0
  have hS : va_S A s.heap s.heap [] := va_S.rf
  have hX : PLc L f (xs 0) (.inr (10, [.ref (xs 1), .ref (xs 2), .int (bI wt)])) := hC.1
  obtain ⟨v0, v2, hla⟩ := hC.2.1.la
  refine lv_aload_n hx hb d_Mon_watch_0 rfl (lv_at hl 0 rfl) ?_
  refine mm_get (v := .int (bI wt)) hK hx hb hown lg_Mon_39 (pl_1 hP hX) 0 rfl rfl d_Mon_watch_1 ?_
  refine mm_ifneB hx hb d_Mon_watch_4 (tgt := 17) (by decide) (fun c4 => ?_) (fun c4 => ?_)
  · refine lv_iconst hx hb d_Mon_watch_17 ci_0 ?_
    exact mm_zrQ false (by first | rfl | decide) hx hb hr hk hS d_Mon_watch_18 ⟨fun h => absurd h (by rintro ⟨h1, h2⟩; simp_all), fun _ => ⟨rfl, hP, hL⟩⟩
  · refine lv_aload_n hx hb d_Mon_watch_7 rfl (lv_at hl 0 rfl) ?_
    refine mm_get (v := .ref (xs 1)) hK hx hb hown lg_Mon_18 (pl_1 hP hX) 0 rfl rfl d_Mon_watch_8 ?_
    refine mm_si (mm_runV hK ⟨hx, hb, hml, hown⟩ lk_Mon_126 (c_AL_isEmpty l G (xs 1) v0 v2 n (by omega)) ⟨rfl, rfl, by decide, by decide⟩ (mm_rc hK (pl_1 hP hla) 0 rfl rfl) (pl_1 hP hla) rfl hl.1 rfl (Nat.le_of_ble_eq_true rfl) ⟨by decide, by decide⟩ d_Mon_watch_11) (fun r11 e11 => ?_)
    subst e11
    refine mm_ifeqB hx hb d_Mon_watch_14 (tgt := 19) (by decide) (fun c14 => ?_) (fun c14 => ?_)
    · refine lv_aload_n hx hb d_Mon_watch_19 rfl (lv_at hl 0 rfl) ?_
      refine mm_qv (mm_runV hK ⟨hx, hb, hml, hown⟩ lk_Mon_129 (c_Mon_begin l G Z L f xs n wt np tm pv q ad CL ss rh hC hn12 hq9) ⟨rfl, rfl, by decide, by decide⟩ (mm_rc hK (pl_1 hP hX) 0 rfl rfl) ⟨⟨hP, hL⟩, (fun q h => hA q (Nat.le_trans hS.1 h))⟩ rfl hl.1 rfl (Nat.le_of_ble_eq_true rfl) ⟨by decide, by decide⟩ d_Mon_watch_20) hS (fun q h => h) (fun H locs e20 hz1 hk1 hS => ?_)
      obtain ⟨f9, pv9, q9, ⟨hP, hL⟩, hz9, he9, hr9, hC9⟩ := e20
      refine lv_aload_n hx hb d_Mon_watch_23 rfl (lv_at hl 0 rfl) ?_
      refine lv_iconst hx hb d_Mon_watch_24 ci_1 ?_
      refine mm_ti (y := bI true) (by decide) ?_
      refine p_put hK hx hb hown lp_Mon_39 hP hL hS hC9.1 (bI_nar _) (bI_fit _) (Nat.le_of_ble_eq_true rfl) d_Mon_watch_25 (fun H locs hP hS => ?_)
      have hP : va_P G.1 cls_all (va_pl L (va_up f9 (xs 0) (.inr (10, [.ref (xs 1), .ref (xs 2), .int (bI true)])))) H := hP
      have hX : PLc L (va_up f9 (xs 0) (.inr (10, [.ref (xs 1), .ref (xs 2), .int (bI true)]))) (xs 0) (.inr (10, [.ref (xs 1), .ref (xs 2), .int (bI true)])) := ⟨hC9.1.1, va_up_self _ _ _⟩
      have hC : CI G Z xs n true 0 tm pv9 q9 ad CL ss rh L (va_up f9 (xs 0) (.inr (10, [.ref (xs 1), .ref (xs 2), .int (bI true)]))) := CI_own hC9 (by omega) (fun a e h hB => ⟨h.1, (va_up_ne _ _ hB).trans h.2⟩) hX
      refine lv_iconst hx hb d_Mon_watch_28 ci_1 ?_
      exact mm_zrQ true (by first | rfl | decide) hx hb hr hk hS d_Mon_watch_29 ⟨fun _ => ⟨rfl, _, pv9, q9, ⟨hP, hL⟩, hz9, he9, hr9, hC⟩, fun h => absurd ⟨c4, of_decide_eq_false c14⟩ h⟩
    · refine lv_iconst hx hb d_Mon_watch_17 ci_0 ?_
      exact mm_zrQ false (by first | rfl | decide) hx hb hr hk hS d_Mon_watch_18 ⟨fun h => absurd h (by rintro ⟨h1, h2⟩; simp_all), fun _ => ⟨rfl, hP, hL⟩⟩
set_option maxHeartbeats 4000000 in
set_option maxRecDepth 100000 in
theorem c_Mon_stop (l : Launch) (G : mm_G) {A : Nat → Prop} (Z : Nat × Nat) (L : List Nat) (f : Nat → va_E) (xs : Nat → Nat) (n : Nat) (wt : Bool) (np : Nat) (tm pv : Nat → Nat) (q ad : Nat → Nat → Nat) (CL : Nat → Bool) (ss : Nat → Nat → Nat → Int64) (rh : Nat → Nat × Nat) (hC : CI G Z xs n wt np tm pv q ad CL ss rh L f) (hn12 : n ≤ 12) (hq9 : ∀ k, k < n → q 0 k ≤ 9) (al : Bool) : Met l y_Mon_stop [.code y_Mon_stop b_Mon_stop 2 none] { frames := 4, cells := 0, slots := 0, locals := 91 } (mm_Pre G [.ref (xs 0), .int (bI al)] (fun H => PO G A L f H ∧ (∀ q, H.size ≤ q → A q))) (mm_Qv (fun H => RSP G A Z xs (if al = true then 0 else n) false tm q ad CL ss rh L H) A) 0 0 A := by
  refine mm_of (by decide) (Nat.le_of_ble_eq_true rfl) ?_
  intro p e s m below meth c ls hx hb hr hk hml hown hnm hK h0 hl
  have hl : lv_has ls 2 [(0, .ref (xs 0)), (1, .int (bI al))] := hl
  obtain ⟨⟨hP, hL⟩, hA⟩ := h0
  have hS : va_S A s.heap s.heap [] := va_S.rf
  have hX : PLc L f (xs 0) (.inr (10, [.ref (xs 1), .ref (xs 2), .int (bI wt)])) := hC.1
  refine lv_aload_n hx hb d_Mon_stop_0 rfl (lv_at hl 0 rfl) ?_
  refine lv_iconst hx hb d_Mon_stop_1 ci_0 ?_
  refine mm_ti (y := bI false) (by decide) ?_
  refine p_put hK hx hb hown lp_Mon_39 hP hL hS hC.1 (bI_nar _) (bI_fit _) (Nat.le_of_ble_eq_true rfl) d_Mon_stop_2 (fun H locs hP hS => ?_)
  have hP : va_P G.1 cls_all (va_pl L (va_up f (xs 0) (.inr (10, [.ref (xs 1), .ref (xs 2), .int (bI false)])))) H := hP
  have hX : PLc L (va_up f (xs 0) (.inr (10, [.ref (xs 1), .ref (xs 2), .int (bI false)]))) (xs 0) (.inr (10, [.ref (xs 1), .ref (xs 2), .int (bI false)])) := ⟨hC.1.1, va_up_self _ _ _⟩
  have hC : CI G Z xs n false np tm pv q ad CL ss rh L (va_up f (xs 0) (.inr (10, [.ref (xs 1), .ref (xs 2), .int (bI false)]))) := CI_own hC (by omega) (fun a e h hB => ⟨h.1, (va_up_ne _ _ hB).trans h.2⟩) hX
  refine lv_iload_n hx hb d_Mon_stop_5 rfl (lv_at hl 1 rfl) ?_
  refine mm_ifeqB hx hb d_Mon_stop_6 (tgt := 16) (by decide) (fun c6 => ?_) (fun c6 => ?_)
  · refine lv_aload_n hx hb d_Mon_stop_16 rfl (lv_at hl 0 rfl) ?_
    refine mm_qv (mm_runV hK ⟨hx, hb, hml, hown⟩ lk_Mon_129 (c_Mon_begin l G Z L (va_up f (xs 0) (.inr (10, [.ref (xs 1), .ref (xs 2), .int (bI false)]))) xs n false np tm pv q ad CL ss rh hC hn12 hq9) ⟨rfl, rfl, by decide, by decide⟩ (mm_rc hK (pl_1 hP hX) 0 rfl rfl) ⟨⟨hP, hL⟩, (fun q h => hA q (Nat.le_trans hS.1 h))⟩ rfl hl.1 rfl (Nat.le_of_ble_eq_true rfl) ⟨by decide, by decide⟩ d_Mon_stop_17) hS (fun q h => h) (fun H locs e17 hz1 hk1 hS => ?_)
    obtain ⟨f9, pv9, q9, ⟨hP, hL⟩, hz9, he9, hr9, hC9⟩ := e17
    exact mm_vrQ hx hb hr hk hS d_Mon_stop_20 (by rw [c6]; exact ⟨f9, pv9, q9, ⟨hP, hL⟩, hz9, he9, hr9, hC9⟩)
  · refine lv_aload_n hx hb d_Mon_stop_9 rfl (lv_at hl 0 rfl) ?_
    refine mm_get (v := .ref (xs 1)) hK hx hb hown lg_Mon_18 (pl_1 hP hX) 0 rfl rfl d_Mon_stop_10 ?_
    obtain ⟨mcn, ⟨h0, h5, hla⟩ | ⟨cap, g, g1, g2, g3, g4, g5⟩⟩ := hC.2.1
    · subst h0
      have hPc := pl_1 hP hla
      have hFc := wF (w := [(xs 1, (.inr (11, [.ref Z.1, .int (nI 0), .int mcn]) : va_E))]) hL hA hS.1 (fa_1 hla.1)
      refine mm_qv (mm_runV hK ⟨hx, hb, hml, hown⟩ lk_Mon_164 (c_AL_clearV l G (xs 1) Z.1 mcn (wD nd1)) ⟨rfl, rfl, by decide, by decide⟩ (mm_rc hK hPc 0 rfl rfl) hPc rfl hl.1 rfl (Nat.le_of_ble_eq_true rfl) ⟨by decide, by decide⟩ d_Mon_stop_13) hS hFc (fun H1 locs e13 hz1 hk1 hS => ?_)
      obtain ⟨f13, u1, u2, u3⟩ := pl_upd hP hk1 e13 nd1 rfl
      have hAL0 : ALf G Z xs 0 (ad 0) L f13 := ⟨mcn + nI 1, Or.inl ⟨rfl, h5, u3 _ (List.mem_singleton.mpr rfl) hla.1⟩⟩
      have hC0 : CI G Z xs 0 false np tm pv q ad CL ss rh L f13 := CI_0 hC hAL0 (fun a e h hB => u2 a e h (fa_1 (fun e => hB (Or.inl e.symm))))
      have hP := u1
      obtain ⟨H, rfl⟩ : ∃ H9, H9 = H1 := ⟨_, rfl⟩
      have hX : PLc L f13 (xs 0) (.inr (10, [.ref (xs 1), .ref (xs 2), .int (bI false)])) := hC0.1
      refine lv_aload_n hx hb d_Mon_stop_16 rfl (lv_at hl 0 rfl) ?_
      refine mm_qv (mm_runV hK ⟨hx, hb, hml, hown⟩ lk_Mon_129 (c_Mon_begin l G Z L f13 xs 0 false np tm pv q ad CL ss rh hC0 (by omega) (fun k h => absurd h (Nat.not_lt_zero k))) ⟨rfl, rfl, by decide, by decide⟩ (mm_rc hK (pl_1 hP hX) 0 rfl rfl) ⟨⟨hP, hL⟩, (fun q h => hA q (Nat.le_trans hS.1 h))⟩ rfl hl.1 rfl (Nat.le_of_ble_eq_true rfl) ⟨by decide, by decide⟩ d_Mon_stop_17) hS (fun q h => h) (fun H locs e17 hz1 hk1 hS => ?_)
      obtain ⟨f9, pv9, q9, ⟨hP, hL⟩, hz9, he9, hr9, hC9⟩ := e17
      exact mm_vrQ hx hb hr hk hS d_Mon_stop_20 (by rw [c6]; exact ⟨f9, pv9, q9, ⟨hP, hL⟩, hz9, he9, hr9, hC9⟩)
    · have d15 : xs 1 ≠ xs 5 := ne_ent g3 g4 (by simp)
      have hPc := pl_cons hP g3 (pl_1 hP g4)
      have hFc := wF (w := [(xs 1, (.inr (11, [.ref (xs 5), .int (nI n), .int mcn]) : va_E)), (xs 5, .inl (G.2.1 4, cap, .inr (.inr (.inr (.inr g)))))]) hL hA hS.1 (fa_2 g3.1 g4.1)
      refine mm_qv (mm_runV hK ⟨hx, hb, hml, hown⟩ lk_Mon_164 (c_AL_clearR l G (xs 1) (xs 5) cap n mcn g g2 (by omega) (wD (nd2 d15))) ⟨rfl, rfl, by decide, by decide⟩ (mm_rc hK hPc 0 rfl rfl) hPc rfl hl.1 rfl (Nat.le_of_ble_eq_true rfl) ⟨by decide, by decide⟩ d_Mon_stop_13) hS hFc (fun H1 locs e13 hz1 hk1 hS => ?_)
      obtain ⟨g9, e13⟩ := e13
      obtain ⟨f13, u1, u2, u3⟩ := pl_upd hP hk1 e13 (nd2 d15) rfl
      have hAL0 : ALf G Z xs 0 (ad 0) L f13 := ⟨mcn + nI 1, Or.inr ⟨cap, g9, g1, Nat.zero_le _, u3 _ (List.mem_cons_self ..) g3.1, u3 _ (List.mem_cons_of_mem _ (List.mem_cons_self ..)) g4.1, fun k h => absurd h (Nat.not_lt_zero k)⟩⟩
      have hC0 : CI G Z xs 0 false np tm pv q ad CL ss rh L f13 := CI_0 hC hAL0 (fun a e h hB => u2 a e h (fa_2 (fun e => hB (Or.inl e.symm)) (fun e => hB (Or.inr e.symm))))
      have hP := u1
      obtain ⟨H, rfl⟩ : ∃ H9, H9 = H1 := ⟨_, rfl⟩
      have hX : PLc L f13 (xs 0) (.inr (10, [.ref (xs 1), .ref (xs 2), .int (bI false)])) := hC0.1
      refine lv_aload_n hx hb d_Mon_stop_16 rfl (lv_at hl 0 rfl) ?_
      refine mm_qv (mm_runV hK ⟨hx, hb, hml, hown⟩ lk_Mon_129 (c_Mon_begin l G Z L f13 xs 0 false np tm pv q ad CL ss rh hC0 (by omega) (fun k h => absurd h (Nat.not_lt_zero k))) ⟨rfl, rfl, by decide, by decide⟩ (mm_rc hK (pl_1 hP hX) 0 rfl rfl) ⟨⟨hP, hL⟩, (fun q h => hA q (Nat.le_trans hS.1 h))⟩ rfl hl.1 rfl (Nat.le_of_ble_eq_true rfl) ⟨by decide, by decide⟩ d_Mon_stop_17) hS (fun q h => h) (fun H locs e17 hz1 hk1 hS => ?_)
      obtain ⟨f9, pv9, q9, ⟨hP, hL⟩, hz9, he9, hr9, hC9⟩ := e17
      exact mm_vrQ hx hb hr hk hS d_Mon_stop_20 (by rw [c6]; exact ⟨f9, pv9, q9, ⟨hP, hL⟩, hz9, he9, hr9, hC9⟩)
