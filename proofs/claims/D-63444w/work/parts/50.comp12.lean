set_option maxHeartbeats 4000000 in
set_option maxRecDepth 100000 in
theorem c_Mon_gather (l : Launch) (G : mm_G) {A : Nat → Prop} (Z : Nat × Nat) (L : List Nat) (f : Nat → va_E) (xs : Nat → Nat) (n : Nat) (wt : Bool) (np : Nat) (tm pv : Nat → Nat) (q ad : Nat → Nat → Nat) (CL : Nat → Bool) (ss : Nat → Nat → Nat → Int64) (rh : Nat → Nat × Nat) (hC : CI G Z xs n wt np tm pv q ad CL ss rh L f) (hn12 : n ≤ 12) (a1 a2 a3 : Int32) (hpv : ∀ j, j < 3 → pv j < 65536) : Met l y_Mon_gather [.code y_Mon_gather b_Mon_gather 6 (some .boolean)] { frames := 0, cells := 0, slots := 0, locals := 0 } (mm_Pre G [.ref (xs 0), .int a1, .int a2, .int a3] (fun H => PO G A L f H ∧ (∀ q, H.size ≤ q → A q))) (mm_Qi (fun r H => (gaP wt a1 a2 a3 → r = bI (decide (pv (cN a1) &&& 2 ^ (4 * cN a2 + cN a3) = 0)) ∧ ∃ f1, PO G A L f1 H ∧ CI G Z xs n wt np tm (va_up pv (cN a1) (pv (cN a1) ||| 2 ^ (4 * cN a2 + cN a3))) q ad CL ss rh L f1) ∧ (¬ gaP wt a1 a2 a3 → r = bI false ∧ PO G A L f H)) A) 0 0 A := by
  refine mm_of (by decide) (Nat.le_of_ble_eq_true rfl) ?_
  intro p e s m below meth c ls hx hb hr hk hml hown hnm hK h0 hl
  have hl : lv_has ls 6 [(0, .ref (xs 0)), (1, .int a1), (2, .int a2), (3, .int a3)] := hl
  obtain ⟨⟨hP, hL⟩, hA⟩ := h0
  have hS : va_S A s.heap s.heap [] := va_S.rf
  have hX : PLc L f (xs 0) (.inr (10, [.ref (xs 1), .ref (xs 2), .int (bI wt)])) := hC.1
  obtain ⟨hG2, hG3, hG4⟩ := hC.2.2.1
  obtain ⟨_, _, x2, x3, x4, _⟩ := hC.2.2.2.2.1
  refine lv_aload_n hx hb d_Mon_gather_0 rfl (lv_at hl 0 rfl) ?_
  refine mm_get (v := .int (bI wt)) hK hx hb hown lg_Mon_39 (pl_1 hP hX) 0 rfl rfl d_Mon_gather_1 ?_
  refine mm_ifeqB hx hb d_Mon_gather_4 (tgt := 34) (by decide) (fun c4 => ?_) (fun c4 => ?_)
  · refine lv_iconst hx hb d_Mon_gather_34 ci_0 ?_
    exact mm_zrQ false (by first | rfl | decide) hx hb hr hk hS d_Mon_gather_35 ⟨fun h => absurd h (by intro h; first | exact absurd (c4.symm.trans h.1) (by decide) | (obtain ⟨h1, h2, h3, h4⟩ := h; omega)), fun _ => ⟨rfl, hP, hL⟩⟩
  · refine lv_iload_n hx hb d_Mon_gather_7 rfl (lv_at hl 1 rfl) ?_
    refine lv_if_lt hx hb d_Mon_gather_8 (tgt := 34) (by decide) (fun c8 => ?_) (fun c8 => ?_)
    · rw [Int32.lt_iff_toInt_lt, Int32.toInt_zero] at c8
      refine lv_iconst hx hb d_Mon_gather_34 ci_0 ?_
      exact mm_zrQ false (by first | rfl | decide) hx hb hr hk hS d_Mon_gather_35 ⟨fun h => absurd h (by intro h; first | exact absurd (c4.symm.trans h.1) (by decide) | (obtain ⟨h1, h2, h3, h4⟩ := h; omega)), fun _ => ⟨rfl, hP, hL⟩⟩
    · rw [Int32.lt_iff_toInt_lt, Int32.toInt_zero] at c8
      refine lv_iload_n hx hb d_Mon_gather_11 rfl (lv_at hl 1 rfl) ?_
      refine lv_iconst hx hb d_Mon_gather_12 ci_2 ?_
      refine lv_icmp_gt hx hb d_Mon_gather_13 (tgt := 34) (by decide) (fun c13 => ?_) (fun c13 => ?_)
      · rw [Int32.lt_iff_toInt_lt, nI_toInt (n := 2) (by omega)] at c13
        refine lv_iconst hx hb d_Mon_gather_34 ci_0 ?_
        exact mm_zrQ false (by first | rfl | decide) hx hb hr hk hS d_Mon_gather_35 ⟨fun h => absurd h (by intro h; first | exact absurd (c4.symm.trans h.1) (by decide) | (obtain ⟨h1, h2, h3, h4⟩ := h; omega)), fun _ => ⟨rfl, hP, hL⟩⟩
      · rw [Int32.lt_iff_toInt_lt, nI_toInt (n := 2) (by omega)] at c13
        refine lv_iload_n hx hb d_Mon_gather_16 rfl (lv_at hl 2 rfl) ?_
        refine lv_if_lt hx hb d_Mon_gather_17 (tgt := 34) (by decide) (fun c17 => ?_) (fun c17 => ?_)
        · rw [Int32.lt_iff_toInt_lt, Int32.toInt_zero] at c17
          refine lv_iconst hx hb d_Mon_gather_34 ci_0 ?_
          exact mm_zrQ false (by first | rfl | decide) hx hb hr hk hS d_Mon_gather_35 ⟨fun h => absurd h (by intro h; first | exact absurd (c4.symm.trans h.1) (by decide) | (obtain ⟨h1, h2, h3, h4⟩ := h; omega)), fun _ => ⟨rfl, hP, hL⟩⟩
        · rw [Int32.lt_iff_toInt_lt, Int32.toInt_zero] at c17
          refine lv_iload_n hx hb d_Mon_gather_20 rfl (lv_at hl 2 rfl) ?_
          refine lv_iconst hx hb d_Mon_gather_21 ci_3 ?_
          refine lv_icmp_gt hx hb d_Mon_gather_22 (tgt := 34) (by decide) (fun c22 => ?_) (fun c22 => ?_)
          · rw [Int32.lt_iff_toInt_lt, nI_toInt (n := 3) (by omega)] at c22
            refine lv_iconst hx hb d_Mon_gather_34 ci_0 ?_
            exact mm_zrQ false (by first | rfl | decide) hx hb hr hk hS d_Mon_gather_35 ⟨fun h => absurd h (by intro h; first | exact absurd (c4.symm.trans h.1) (by decide) | (obtain ⟨h1, h2, h3, h4⟩ := h; omega)), fun _ => ⟨rfl, hP, hL⟩⟩
          · rw [Int32.lt_iff_toInt_lt, nI_toInt (n := 3) (by omega)] at c22
            refine lv_iload_n hx hb d_Mon_gather_25 rfl (lv_at hl 3 rfl) ?_
            refine lv_if_lt hx hb d_Mon_gather_26 (tgt := 34) (by decide) (fun c26 => ?_) (fun c26 => ?_)
            · rw [Int32.lt_iff_toInt_lt, Int32.toInt_zero] at c26
              refine lv_iconst hx hb d_Mon_gather_34 ci_0 ?_
              exact mm_zrQ false (by first | rfl | decide) hx hb hr hk hS d_Mon_gather_35 ⟨fun h => absurd h (by intro h; first | exact absurd (c4.symm.trans h.1) (by decide) | (obtain ⟨h1, h2, h3, h4⟩ := h; omega)), fun _ => ⟨rfl, hP, hL⟩⟩
            · rw [Int32.lt_iff_toInt_lt, Int32.toInt_zero] at c26
              refine lv_iload_n hx hb d_Mon_gather_29 rfl (lv_at hl 3 rfl) ?_
              refine lv_iconst hx hb d_Mon_gather_30 ci_3 ?_
              refine lv_icmp_le hx hb d_Mon_gather_31 (tgt := 36) (by decide) (fun c31 => ?_) (fun c31 => ?_)
              · rw [Int32.le_iff_toInt_le, nI_toInt (n := 3) (by omega)] at c31
                have hrrl : 0 ≤ a1.toInt ∧ a1.toInt ≤ ((2 : Nat) : Int) := by omega
                obtain ⟨rl, erl, hrl2⟩ := ra_nat hrrl (by decide)
                subst erl
                have hrx : 0 ≤ a2.toInt ∧ a2.toInt ≤ ((3 : Nat) : Int) := by omega
                obtain ⟨x, ex, hx2⟩ := ra_nat hrx (by decide)
                subst ex
                have hry : 0 ≤ a3.toInt ∧ a3.toInt ≤ ((3 : Nat) : Int) := by omega
                obtain ⟨y, ey, hy2⟩ := ra_nat hry (by decide)
                subst ey
                have hp16 := hpv rl (by omega)
                have hal : pv rl &&& 2 ^ (4 * x + y) ≤ pv rl := Nat.and_le_left
                have hor := orp16 (k := 4 * x + y) hp16 (by omega)
                refine lv_iconst hx hb d_Mon_gather_36 ci_1 ?_
                refine lv_iconst hx hb d_Mon_gather_37 ci_4 ?_
                refine lv_iload_n hx hb d_Mon_gather_38 rfl (lv_at hl 2 rfl) ?_
                refine lv_imul hx hb d_Mon_gather_39 ?_
                refine mm_ti (pk_mul _ _) ?_
                refine lv_iload_n hx hb d_Mon_gather_40 rfl (lv_at hl 3 rfl) ?_
                refine lv_iadd hx hb d_Mon_gather_41 ?_
                refine mm_ti (nI_add _ _) ?_
                refine lv_ishl hx hb d_Mon_gather_42 ?_
                refine mm_ti (y := nI (2 ^ (4 * x + y))) (shl16 _ (by omega)) ?_
                refine lv_istore (lv' := [(4, .int (nI (2 ^ (4 * x + y)))), (0, .ref (xs 0)), (1, .int (nI rl)), (2, .int (nI x)), (3, .int (nI y))]) hx hb d_Mon_gather_43 hl (by decide) rfl (fun ls hl => ?_)
                refine lv_aload_n hx hb d_Mon_gather_45 rfl (lv_at hl 1 rfl) ?_
                refine mm_get (v := .ref (xs 2)) hK hx hb hown lg_Mon_25 (pl_1 hP hX) 0 rfl rfl d_Mon_gather_46 ?_
                refine mm_get (v := .ref (xs 4)) hK hx hb hown lg_Mon_132 (pl_1 hP hG2) 0 rfl rfl d_Mon_gather_49 ?_
                refine lv_iload_n hx hb d_Mon_gather_52 rfl (lv_at hl 2 rfl) ?_
                refine mm_cald hK hx hb (pl_1 hP hG4) 0 rfl (by decide) (i := rl) (by omega) d_Mon_gather_53 ?_
                refine lv_iload hx hb d_Mon_gather_54 (lv_at hl 0 rfl) ?_
                refine lv_iand hx hb d_Mon_gather_56 ?_
                refine mm_ti (y := nI (pv rl &&& 2 ^ (4 * x + y))) (nx_and2 _ _) ?_
                refine lv_if_ne hx hb d_Mon_gather_57 (tgt := 64) (by decide) (fun c57 => ?_) (fun c57 => ?_)
                · have c57 : pv rl &&& 2 ^ (4 * x + y) ≠ 0 := nb_znet (by omega) c57
                  refine lv_iconst hx hb d_Mon_gather_64 ci_0 ?_
                  refine lv_istore (lv' := [(5, .int (nI 0)), (4, .int (nI (2 ^ (4 * x + y)))), (0, .ref (xs 0)), (1, .int (nI rl)), (2, .int (nI x)), (3, .int (nI y))]) hx hb d_Mon_gather_65 hl (by decide) rfl (fun ls hl => ?_)
                  refine lv_aload_n hx hb d_Mon_gather_67 rfl (lv_at hl 2 rfl) ?_
                  refine mm_get (v := .ref (xs 2)) hK hx hb hown lg_Mon_25 (pl_1 hP hX) 0 rfl rfl d_Mon_gather_68 ?_
                  refine mm_get (v := .ref (xs 4)) hK hx hb hown lg_Mon_132 (pl_1 hP hG2) 0 rfl rfl d_Mon_gather_71 ?_
                  refine lv_iload_n hx hb d_Mon_gather_74 rfl (lv_at hl 3 rfl) ?_
                  refine lv_dup2_11 hx hb d_Mon_gather_75 rfl rfl ?_
                  refine mm_cald hK hx hb (pl_1 hP hG4) 0 rfl (by decide) (i := rl) (by omega) d_Mon_gather_76 ?_
                  refine lv_iload hx hb d_Mon_gather_77 (lv_at hl 1 rfl) ?_
                  refine lv_ior hx hb d_Mon_gather_79 ?_
                  refine mm_ti (y := nI (pv rl ||| 2 ^ (4 * x + y))) (nx_or _ _) ?_
                  refine lv_i2c (v := nI (pv rl ||| 2 ^ (4 * x + y))) hx hb d_Mon_gather_80 (i2c_nI hor) ?_
                  refine p_castN hK hx hb hP hL hS hG4 (by decide) (i := rl) (x := pv rl ||| 2 ^ (4 * x + y)) (by omega) hor d_Mon_gather_81 (fun H locs hP hS => ?_)
                  refine lv_iload hx hb d_Mon_gather_82 (lv_at hl 0 rfl) ?_
                  exact mm_zrQ false (by first | rfl | decide) hx hb hr hk hS d_Mon_gather_84 ⟨fun _ => by rw [cN_nI (k := rl) (by omega), cN_nI (k := x) (by omega), cN_nI (k := y) (by omega)]; exact ⟨by rw [decide_eq_false c57], _, ⟨hP, hL⟩, CI_log hC hn12 (fun a e h hB => ⟨h.1, (va_up_ne _ _ (fun e => hB (Or.inr (Or.inr e)))).trans h.2⟩) ⟨⟨hG2.1, (va_up_ne _ _ (ne_rh x2 x4 (by simp))).trans hG2.2⟩, ⟨hG3.1, (va_up_ne _ _ (ne_rh x3 x4 (by simp))).trans hG3.2⟩, ⟨hG4.1, va_up_self _ _ _⟩⟩⟩, fun h => absurd ⟨c4, hrrl, hrx, hry⟩ h⟩
                · have c57 : pv rl &&& 2 ^ (4 * x + y) = 0 := nb_znef (by omega) c57
                  refine lv_iconst hx hb d_Mon_gather_60 ci_1 ?_
                  refine lv_goto hx hb d_Mon_gather_61 (tgt := 65) (by decide) ?_
                  refine lv_istore (lv' := [(5, .int (nI 1)), (4, .int (nI (2 ^ (4 * x + y)))), (0, .ref (xs 0)), (1, .int (nI rl)), (2, .int (nI x)), (3, .int (nI y))]) hx hb d_Mon_gather_65 hl (by decide) rfl (fun ls hl => ?_)
                  refine lv_aload_n hx hb d_Mon_gather_67 rfl (lv_at hl 2 rfl) ?_
                  refine mm_get (v := .ref (xs 2)) hK hx hb hown lg_Mon_25 (pl_1 hP hX) 0 rfl rfl d_Mon_gather_68 ?_
                  refine mm_get (v := .ref (xs 4)) hK hx hb hown lg_Mon_132 (pl_1 hP hG2) 0 rfl rfl d_Mon_gather_71 ?_
                  refine lv_iload_n hx hb d_Mon_gather_74 rfl (lv_at hl 3 rfl) ?_
                  refine lv_dup2_11 hx hb d_Mon_gather_75 rfl rfl ?_
                  refine mm_cald hK hx hb (pl_1 hP hG4) 0 rfl (by decide) (i := rl) (by omega) d_Mon_gather_76 ?_
                  refine lv_iload hx hb d_Mon_gather_77 (lv_at hl 1 rfl) ?_
                  refine lv_ior hx hb d_Mon_gather_79 ?_
                  refine mm_ti (y := nI (pv rl ||| 2 ^ (4 * x + y))) (nx_or _ _) ?_
                  refine lv_i2c (v := nI (pv rl ||| 2 ^ (4 * x + y))) hx hb d_Mon_gather_80 (i2c_nI hor) ?_
                  refine p_castN hK hx hb hP hL hS hG4 (by decide) (i := rl) (x := pv rl ||| 2 ^ (4 * x + y)) (by omega) hor d_Mon_gather_81 (fun H locs hP hS => ?_)
                  refine lv_iload hx hb d_Mon_gather_82 (lv_at hl 0 rfl) ?_
                  exact mm_zrQ true (by first | rfl | decide) hx hb hr hk hS d_Mon_gather_84 ⟨fun _ => by rw [cN_nI (k := rl) (by omega), cN_nI (k := x) (by omega), cN_nI (k := y) (by omega)]; exact ⟨by rw [decide_eq_true c57], _, ⟨hP, hL⟩, CI_log hC hn12 (fun a e h hB => ⟨h.1, (va_up_ne _ _ (fun e => hB (Or.inr (Or.inr e)))).trans h.2⟩) ⟨⟨hG2.1, (va_up_ne _ _ (ne_rh x2 x4 (by simp))).trans hG2.2⟩, ⟨hG3.1, (va_up_ne _ _ (ne_rh x3 x4 (by simp))).trans hG3.2⟩, ⟨hG4.1, va_up_self _ _ _⟩⟩⟩, fun h => absurd ⟨c4, hrrl, hrx, hry⟩ h⟩
              · rw [Int32.le_iff_toInt_le, nI_toInt (n := 3) (by omega)] at c31
                refine lv_iconst hx hb d_Mon_gather_34 ci_0 ?_
                exact mm_zrQ false (by first | rfl | decide) hx hb hr hk hS d_Mon_gather_35 ⟨fun h => absurd h (by intro h; first | exact absurd (c4.symm.trans h.1) (by decide) | (obtain ⟨h1, h2, h3, h4⟩ := h; omega)), fun _ => ⟨rfl, hP, hL⟩⟩
set_option maxHeartbeats 4000000 in
set_option maxRecDepth 100000 in
theorem c_Mon_init (l : Launch) (G : mm_G) {A : Nat → Prop} (Z : Nat × Nat) (o : Nat) (hD : va_D A [(o, .inr (10, [.null, .null, .int 0]))]) : Met l y_Mon_init [.code y_Mon_init b_Mon_init 1 none] { frames := 4, cells := 4, slots := 33, locals := 72 } (mn_Pre G A Z [.ref o] (fun H => va_P G.1 cls_all [(o, .inr (10, [.null, .null, .int 0]))] H ∧ (∀ q, H.size ≤ q → A q))) (mm_Qv (fun H => ∃ la lo ta pa, va_P G.1 cls_all [(o, .inr (10, [.ref la, .ref lo, .int 0])), (la, .inr (11, [.ref Z.1, .int 0, .int (nI 0)])), (lo, .inr (9, [.ref ta, .int (nI 0), .ref pa])), (ta, .inl (G.2.1 0, 24, .inl (nA (fun _ => 0)))), (pa, .inl (G.2.1 2, 3, .inl (nA (fun _ => 0))))] H ∧ va_D A [(o, .inr (10, [.ref la, .ref lo, .int 0])), (la, .inr (11, [.ref Z.1, .int 0, .int (nI 0)])), (lo, .inr (9, [.ref ta, .int (nI 0), .ref pa])), (ta, .inl (G.2.1 0, 24, .inl (nA (fun _ => 0)))), (pa, .inl (G.2.1 2, 3, .inl (nA (fun _ => 0))))]) A) 4 33 A := by
  refine mn_of (by decide) (Nat.le_of_ble_eq_true rfl) ?_
  intro p e s m below meth c ls hx hb hr hk hml hown hnm hK hT h0 hl
  have hl : lv_has ls 1 [(0, .ref o)] := hl
  obtain ⟨hP, hA⟩ := h0
  have hS : va_S A s.heap s.heap [] := va_S.rf
  refine lv_aload_n hx hb d_Mon_init_0 rfl (lv_at hl 0 rfl) ?_
  refine W.objInit hx hb hown (hK.w kw_32) (hK.w kw_33) (hK.w kw_34) rfl (by rw [hml]; exact hl.1) rfl d_Mon_init_1 (Nat.le_of_ble_eq_true rfl) (Nat.le_of_ble_eq_true rfl) ?_
  refine W.eq (g2 := F0 m 4 ls []) rfl ?_
  refine lv_aload_n hx hb d_Mon_init_4 rfl (lv_at hl 0 rfl) ?_
  refine mm_new hK hx hb hown ln_Mon_15 hP hD hS hA (by decide) (by decide) d_Mon_init_5 (fun q5 H hP hD hS => ?_)
  have hP : va_P G.1 cls_all [(o, .inr (10, [.null, .null, .int 0])), (q5, .inr (11, [.null, .int 0, .int 0]))] H := hP
  have hD : va_D A [(o, .inr (10, [.null, .null, .int 0])), (q5, .inr (11, [.null, .int 0, .int 0]))] := hD
  refine W.widen (k := 1) (n := 3) (by decide) (by decide) ?_
  refine lv_dup hx hb d_Mon_init_8 rfl ?_
  have hPc := hP.sub (ws' := [(q5, .inr (11, [.null, .int 0, .int 0]))]) [1] rfl
  have hDc := (hD.sub (ws' := [(q5, .inr (11, [.null, .int 0, .int 0]))]) [1] (by decide) rfl).self (sz := H.size)
  have hFc := va_free (wc := [(q5, .inr (11, [.null, .int 0, .int 0]))]) hD hS hA [1] rfl
  refine mm_qv (mn_runI hK hT hS hFc ⟨hx, hb, hml, hown⟩ lk_Mon_17 (c_AL_init l G Z q5 hDc) ⟨rfl, rfl, by decide, by decide⟩ hPc rfl hl.1 rfl (Nat.le_of_ble_eq_true rfl) ⟨by decide, by decide⟩ d_Mon_init_9) hS hFc (fun H1 locs e9 hz1 hk1 hS => ?_)
  have hP1 := e9
  have hD1 : va_D (va_A [(q5, .inr (11, [.null, .int 0, .int 0]))] H.size) [(q5, .inr (11, [.ref Z.1, .int 0, .int (nI 0)]))] := mD hDc rfl
  obtain ⟨hP, hD⟩ := va_join (wr := [(o, .inr (10, [.null, .null, .int 0]))]) (w1 := [(q5, .inr (11, [.ref Z.1, .int 0, .int (nI 0)]))]) hP hD [1] [0] rfl rfl (by decide) (by decide) hk1 hFc hP1 hD1
  obtain ⟨H, rfl⟩ : ∃ H9, H9 = H1 := ⟨_, rfl⟩
  have hP : va_P G.1 cls_all [(o, .inr (10, [.null, .null, .int 0])), (q5, .inr (11, [.ref Z.1, .int 0, .int (nI 0)]))] H := hP
  have hD : va_D A [(o, .inr (10, [.null, .null, .int 0])), (q5, .inr (11, [.ref Z.1, .int 0, .int (nI 0)]))] := hD
  refine mm_putF (v := .ref q5) hK hx hb hown hnm lp_Mon_18 hP hD hS 0 rfl rfl rfl (Nat.le_of_ble_eq_true rfl) d_Mon_init_12 (fun H locs hP hD hS => ?_)
  have hP : va_P G.1 cls_all [(o, .inr (10, [.ref q5, .null, .int 0])), (q5, .inr (11, [.ref Z.1, .int 0, .int (nI 0)]))] H := hP
  have hD : va_D A [(o, .inr (10, [.ref q5, .null, .int 0])), (q5, .inr (11, [.ref Z.1, .int 0, .int (nI 0)]))] := hD
  refine lv_aload_n hx hb d_Mon_init_15 rfl (lv_at hl 0 rfl) ?_
  refine mm_new hK hx hb hown ln_Mon_22 hP hD hS hA (by decide) (by decide) d_Mon_init_16 (fun q16 H hP hD hS => ?_)
  have hP : va_P G.1 cls_all [(o, .inr (10, [.ref q5, .null, .int 0])), (q5, .inr (11, [.ref Z.1, .int 0, .int (nI 0)])), (q16, .inr (9, [.null, .int 0, .null]))] H := hP
  have hD : va_D A [(o, .inr (10, [.ref q5, .null, .int 0])), (q5, .inr (11, [.ref Z.1, .int 0, .int (nI 0)])), (q16, .inr (9, [.null, .int 0, .null]))] := hD
  refine W.widen (k := 2) (n := 6) (by decide) (by decide) ?_
  refine lv_dup hx hb d_Mon_init_19 rfl ?_
  have hPc := hP.sub (ws' := [(q16, .inr (9, [.null, .int 0, .null]))]) [2] rfl
  have hDc := (hD.sub (ws' := [(q16, .inr (9, [.null, .int 0, .null]))]) [2] (by decide) rfl).self (sz := H.size)
  have hFc := va_free (wc := [(q16, .inr (9, [.null, .int 0, .null]))]) hD hS hA [2] rfl
  refine mm_qv (mm_runIN hK ⟨hx, hb, hml, hown⟩ lk_Mon_24 (c_Log_init l G q16 hDc) ⟨rfl, rfl, by decide, by decide⟩ ⟨hPc, fun q h => Or.inr h⟩ rfl hl.1 rfl (Nat.le_of_ble_eq_true rfl) ⟨by decide, by decide⟩ d_Mon_init_20) hS hFc (fun H1 locs e20 hz1 hk1 hS => ?_)
  obtain ⟨ta, pa, hP1, hD1⟩ := e20
  obtain ⟨hP, hD⟩ := va_join (wr := [(o, .inr (10, [.ref q5, .null, .int 0])), (q5, .inr (11, [.ref Z.1, .int 0, .int (nI 0)]))]) (w1 := [(q16, .inr (9, [.ref ta, .int (nI 0), .ref pa])), (ta, .inl (G.2.1 0, 24, .inl (nA (fun _ => 0)))), (pa, .inl (G.2.1 2, 3, .inl (nA (fun _ => 0))))]) hP hD [2] [0, 1] rfl rfl (by decide) (by decide) hk1 hFc hP1 hD1
  obtain ⟨H, rfl⟩ : ∃ H9, H9 = H1 := ⟨_, rfl⟩
  have hP : va_P G.1 cls_all [(o, .inr (10, [.ref q5, .null, .int 0])), (q5, .inr (11, [.ref Z.1, .int 0, .int (nI 0)])), (q16, .inr (9, [.ref ta, .int (nI 0), .ref pa])), (ta, .inl (G.2.1 0, 24, .inl (nA (fun _ => 0)))), (pa, .inl (G.2.1 2, 3, .inl (nA (fun _ => 0))))] H := hP
  have hD : va_D A [(o, .inr (10, [.ref q5, .null, .int 0])), (q5, .inr (11, [.ref Z.1, .int 0, .int (nI 0)])), (q16, .inr (9, [.ref ta, .int (nI 0), .ref pa])), (ta, .inl (G.2.1 0, 24, .inl (nA (fun _ => 0)))), (pa, .inl (G.2.1 2, 3, .inl (nA (fun _ => 0))))] := hD
  refine W.widen (k := 4) (n := 33) (by decide) (by decide) ?_
  refine mm_putF (v := .ref q16) hK hx hb hown hnm lp_Mon_25 hP hD hS 0 rfl rfl rfl (Nat.le_of_ble_eq_true rfl) d_Mon_init_23 (fun H locs hP hD hS => ?_)
  have hP : va_P G.1 cls_all [(o, .inr (10, [.ref q5, .ref q16, .int 0])), (q5, .inr (11, [.ref Z.1, .int 0, .int (nI 0)])), (q16, .inr (9, [.ref ta, .int (nI 0), .ref pa])), (ta, .inl (G.2.1 0, 24, .inl (nA (fun _ => 0)))), (pa, .inl (G.2.1 2, 3, .inl (nA (fun _ => 0))))] H := hP
  have hD : va_D A [(o, .inr (10, [.ref q5, .ref q16, .int 0])), (q5, .inr (11, [.ref Z.1, .int 0, .int (nI 0)])), (q16, .inr (9, [.ref ta, .int (nI 0), .ref pa])), (ta, .inl (G.2.1 0, 24, .inl (nA (fun _ => 0)))), (pa, .inl (G.2.1 2, 3, .inl (nA (fun _ => 0))))] := hD
  exact mm_vrQ hx hb hr hk hS d_Mon_init_26 ⟨_, _, _, _, hP, hD⟩
