set_option maxHeartbeats 4000000 in
set_option maxRecDepth 100000 in
theorem c_Atom_advance (l : Launch) (G : mm_G) {A : Nat → Prop} (Z : Nat × Nat) (o sa re : Nat) (v0 v1 v2 v3 v4 : Value) (se : Nat → Int64) (rl a b : Nat) (lo ta pa0 np : Nat) (tm pv : Nat → Nat) (hre : re < 24) (hrl : rl ≤ 2) (ha : a < 8) (ha3 : a ≠ 3) (hb9 : b < 8) (hb3 : b ≠ 3) (hpv : pv rl < 65536) (hD : va_D A [(o, .inr (0, [v0, v1, v2, v3, v4, .ref sa, .int (nI re), .int (nI rl), .int (nI a), .int (nI b)])), (sa, .inl (G.2.1 1, 24, .inr (.inl se)))]) (hRN : ∀ q ∈ ([(lo, .inr (9, [.ref ta, .int (nI np), .ref pa0])), (ta, .inl (G.2.1 0, 24, .inl (nA tm))), (pa0, .inl (G.2.1 2, 3, .inl (nA pv)))] : va_W), ¬ A q.1) : Met l y_Atom_advance [.code y_Atom_advance b_Atom_advance 5 none] { frames := 1, cells := 0, slots := 0, locals := 21 } (mn_Pre G A Z [.ref o, .ref lo] (fun H => va_P G.1 cls_all [(o, .inr (0, [v0, v1, v2, v3, v4, .ref sa, .int (nI re), .int (nI rl), .int (nI a), .int (nI b)])), (sa, .inl (G.2.1 1, 24, .inr (.inl se)))] H ∧ va_P G.1 cls_all [(lo, .inr (9, [.ref ta, .int (nI np), .ref pa0])), (ta, .inl (G.2.1 0, 24, .inl (nA tm))), (pa0, .inl (G.2.1 2, 3, .inl (nA pv)))] H)) (mm_Qv (fun H => va_P G.1 cls_all [(o, .inr (0, [v0, v1, v2, v3, v4, .ref sa, .int (nI (re + 1)), .int (nI rl), .int (nI a), .int (nI b)])), (sa, .inl (G.2.1 1, 24, .inr (.inl (va_up se re (atS (pv rl) a b 16)))))] H) A) 0 0 A := by
  refine mn_of (by decide) (Nat.le_of_ble_eq_true rfl) ?_
  intro p e s m below meth c ls hx hb hr hk hml hown hnm hK hT h0 hl
  have hl : lv_has ls 5 [(0, .ref o), (1, .ref lo)] := hl
  obtain ⟨hP, hR⟩ := h0
  have hS : va_S A s.heap s.heap [] := va_S.rf
  refine lv_lconst (v := 0) hx hb d_Atom_advance_0 (by decide) ?_
  refine lv_lstore_n (lv' := [(2, .long 0), (0, .ref o), (1, .ref lo)]) hx hb d_Atom_advance_1 rfl hl (by decide) rfl (fun ls hl => ?_)
  refine lv_iconst hx hb d_Atom_advance_2 ci_0 ?_
  refine lv_istore (lv' := [(4, .int (nI 0)), (2, .long 0), (0, .ref o), (1, .ref lo)]) hx hb d_Atom_advance_3 hl (by decide) rfl (fun ls hl => ?_)
  refine mm_loop (σ := (Nat) × (Int64)) (fun x ls H locs => match x with | (k, z9) => lv_has ls 5 [(0, .ref o), (1, .ref lo), (2, .long z9), (4, .int (nI k))] ∧ va_P G.1 cls_all [(o, .inr (0, [v0, v1, v2, v3, v4, .ref sa, .int (nI re), .int (nI rl), .int (nI a), .int (nI b)])), (sa, .inl (G.2.1 1, 24, .inr (.inl se)))] H ∧ va_D A [(o, .inr (0, [v0, v1, v2, v3, v4, .ref sa, .int (nI re), .int (nI rl), .int (nI a), .int (nI b)])), (sa, .inl (G.2.1 1, 24, .inr (.inl se)))] ∧ va_S A s.heap H locs ∧ (k ≤ 16) ∧ (z9 = atS (pv rl) a b k)) (fun x => match x with | (k, z9) => 16 - k) ?_ (0, 0) _ _ _ ⟨(lv_sub hl [2, 3, 1, 0] rfl), hP, hD, hS, (by omega), rfl⟩
  rintro ⟨k, z9⟩ ls H locs ⟨hl, hP, hD, hS, hk9, hz⟩ ih5
  refine lv_iload hx hb d_Atom_advance_5 (lv_at hl 3 rfl) ?_
  refine lv_bipush (v := nI 16) hx hb d_Atom_advance_7 (by decide) ?_
  refine lv_icmp_ge hx hb d_Atom_advance_9 (tgt := 61) (by decide) (fun c9 => ?_) (fun c9 => ?_)
  · have c9 : k ≥ 16 := nb_get (by omega) (by omega) c9
    refine lv_aload_n hx hb d_Atom_advance_61 rfl (lv_at hl 0 rfl) ?_
    refine mm_get (v := .ref sa) hK hx hb hown lg_Atom_41 hP 0 rfl rfl d_Atom_advance_62 ?_
    refine lv_aload_n hx hb d_Atom_advance_65 rfl (lv_at hl 0 rfl) ?_
    refine lv_dup hx hb d_Atom_advance_66 rfl ?_
    refine mm_get (v := .int (nI re)) hK hx hb hown lg_Atom_45 hP 0 rfl rfl d_Atom_advance_67 ?_
    refine lv_dup_x1 hx hb d_Atom_advance_70 rfl rfl ?_
    refine lv_iconst hx hb d_Atom_advance_71 ci_1 ?_
    refine lv_iadd hx hb d_Atom_advance_72 ?_
    refine mm_ti (nI_add _ _) ?_
    refine mm_put (v := .int (nI (re + 1))) hK hx hb hown lp_Atom_45 hP hD hS 0 rfl rfl rfl (Nat.le_of_ble_eq_true rfl) d_Atom_advance_73 (fun H locs hP hD hS => ?_)
    have hP : va_P G.1 cls_all [(o, .inr (0, [v0, v1, v2, v3, v4, .ref sa, .int (nI (re + 1)), .int (nI rl), .int (nI a), .int (nI b)])), (sa, .inl (G.2.1 1, 24, .inr (.inl se)))] H := hP
    have hD : va_D A [(o, .inr (0, [v0, v1, v2, v3, v4, .ref sa, .int (nI (re + 1)), .int (nI rl), .int (nI a), .int (nI b)])), (sa, .inl (G.2.1 1, 24, .inr (.inl se)))] := hD
    refine lv_lload_n hx hb d_Atom_advance_76 rfl (lv_at hl 2 rfl) ?_
    refine mm_last (x := z9) hK hx hb hP hD hS 1 rfl (by decide) (i := re) (by omega) d_Atom_advance_77 (fun H locs hP hD hS => ?_)
    have hP : va_P G.1 cls_all [(o, .inr (0, [v0, v1, v2, v3, v4, .ref sa, .int (nI (re + 1)), .int (nI rl), .int (nI a), .int (nI b)])), (sa, .inl (G.2.1 1, 24, .inr (.inl (va_up se re z9))))] H := hP
    have hD : va_D A [(o, .inr (0, [v0, v1, v2, v3, v4, .ref sa, .int (nI (re + 1)), .int (nI rl), .int (nI a), .int (nI b)])), (sa, .inl (G.2.1 1, 24, .inr (.inl (va_up se re z9))))] := hD
    exact mm_vrQ hx hb hr hk hS d_Atom_advance_78 (by rw [hz, show k = 16 by omega] at hP; exact hP)
  · have c9 : k < 16 := nb_gef (by omega) (by omega) c9
    refine lv_aload_n hx hb d_Atom_advance_12 rfl (lv_at hl 1 rfl) ?_
    refine mm_get (v := .ref pa0) hK hx hb hown lg_Atom_31 (mm_ro hR hRN hS) 0 rfl rfl d_Atom_advance_13 ?_
    refine lv_aload_n hx hb d_Atom_advance_16 rfl (lv_at hl 0 rfl) ?_
    refine mm_get (v := .int (nI rl)) hK hx hb hown lg_Atom_13 hP 0 rfl rfl d_Atom_advance_17 ?_
    refine mm_cald hK hx hb (mm_ro hR hRN hS) 2 rfl (by decide) (i := rl) (by omega) d_Atom_advance_20 ?_
    refine lv_iload hx hb d_Atom_advance_21 (lv_at hl 3 rfl) ?_
    refine lv_ishr hx hb d_Atom_advance_23 ?_
    refine lv_iconst hx hb d_Atom_advance_24 ci_1 ?_
    refine lv_iand hx hb d_Atom_advance_25 ?_
    refine mm_ti (y := nI (pv rl / 2 ^ k % 2)) (pb_lem hpv (by omega)) ?_
    have z1 : pv rl / 2 ^ k % 2 < 2 := Nat.mod_lt _ (by decide)
    refine lv_if_eq hx hb d_Atom_advance_26 (tgt := 55) (by decide) (fun c26 => ?_) (fun c26 => ?_)
    · have c26 : pv rl / 2 ^ k % 2 = 0 := nb_zeqt (by omega) c26
      refine lv_iinc (k := 3) (v := nI (k + 1)) (lv' := [(4, .int (nI (k + 1))), (0, .ref o), (1, .ref lo), (2, .long z9)]) hx hb d_Atom_advance_55 hl rfl (inc1 _) (by decide) rfl (fun ls hl => ?_)
      refine lv_goto hx hb d_Atom_advance_58 (tgt := 5) (by decide) ?_
      exact ih5 ((k + 1), z9) _ _ _ ⟨(lv_sub hl [1, 2, 3, 0] rfl), hP, hD, hS, (by omega), (by rw [atS, if_neg (by omega)]; exact hz)⟩ (by (try dsimp only); omega)
    · have c26 : pv rl / 2 ^ k % 2 ≠ 0 := nb_zeqf (by omega) c26
      refine lv_lload_n hx hb d_Atom_advance_29 rfl (lv_at hl 2 rfl) ?_
      refine lv_aload_n hx hb d_Atom_advance_30 rfl (lv_at hl 0 rfl) ?_
      refine mm_get (v := .int (nI a)) hK hx hb hown lg_Atom_19 hP 0 rfl rfl d_Atom_advance_31 ?_
      refine lv_iload hx hb d_Atom_advance_34 (lv_at hl 3 rfl) ?_
      refine lv_iconst hx hb d_Atom_advance_36 ci_2 ?_
      refine lv_ishr hx hb d_Atom_advance_37 ?_
      refine mm_ti (y := nI (k / 4)) (q4a _ (by omega)) ?_
      refine mm_sl (mn_runSN hK hT hS (fun q h => h) ⟨hx, hb, hml, hown⟩ lk_Atom_37 (c_Mon_where l G Z a (k / 4) (by omega) (by omega) (by omega)) ⟨rfl, rfl, by decide, by decide⟩ trivial rfl hl.1 rfl (Nat.le_of_ble_eq_true rfl) ⟨by decide, by decide⟩ d_Atom_advance_38) (fun r38 e38 => ?_)
      subst e38
      refine lv_aload_n hx hb d_Atom_advance_41 rfl (lv_at hl 0 rfl) ?_
      refine mm_get (v := .int (nI b)) hK hx hb hown lg_Atom_22 hP 0 rfl rfl d_Atom_advance_42 ?_
      refine lv_iload hx hb d_Atom_advance_45 (lv_at hl 3 rfl) ?_
      refine lv_iconst hx hb d_Atom_advance_47 ci_3 ?_
      refine lv_iand hx hb d_Atom_advance_48 ?_
      refine mm_ti (y := nI (k % 4)) (q4b _ (by omega)) ?_
      refine mm_sl (mn_runSN hK hT hS (fun q h => h) ⟨hx, hb, hml, hown⟩ lk_Atom_37 (c_Mon_where l G Z b (k % 4) (by omega) (by omega) (by omega)) ⟨rfl, rfl, by decide, by decide⟩ trivial rfl hl.1 rfl (Nat.le_of_ble_eq_true rfl) ⟨by decide, by decide⟩ d_Atom_advance_49) (fun r49 e49 => ?_)
      subst e49
      refine lv_land hx hb d_Atom_advance_52 ?_
      refine lv_lor hx hb d_Atom_advance_53 ?_
      refine lv_lstore_n (lv' := [(2, .long (z9 ||| ((whL a (k / 4)) &&& (whL b (k % 4))))), (0, .ref o), (1, .ref lo), (4, .int (nI k))]) hx hb d_Atom_advance_54 rfl hl (by decide) rfl (fun ls hl => ?_)
      refine lv_iinc (k := 3) (v := nI (k + 1)) (lv' := [(4, .int (nI (k + 1))), (2, .long (z9 ||| ((whL a (k / 4)) &&& (whL b (k % 4))))), (0, .ref o), (1, .ref lo)]) hx hb d_Atom_advance_55 hl rfl (inc1 _) (by decide) rfl (fun ls hl => ?_)
      refine lv_goto hx hb d_Atom_advance_58 (tgt := 5) (by decide) ?_
      exact ih5 ((k + 1), (z9 ||| ((whL a (k / 4)) &&& (whL b (k % 4))))) _ _ _ ⟨(lv_sub hl [2, 3, 1, 0] rfl), hP, hD, hS, (by omega), (by rw [atS, if_pos c26, hz])⟩ (by (try dsimp only); omega)
set_option maxHeartbeats 4000000 in
set_option maxRecDepth 100000 in
theorem c_Compare_advance (l : Launch) (G : mm_G) {A : Nat → Prop} (o sa re : Nat) (v0 v1 v2 v3 v4 : Value) (se : Nat → Int64) (st0 : Int64) (lo : Nat) (hre : re < 24) (hD : va_D A [(o, .inr (1, [v0, v1, v2, v3, v4, .ref sa, .int (nI re), .long st0])), (sa, .inl (G.2.1 1, 24, .inr (.inl se)))]) (hRN : ∀ q ∈ ([] : va_W), ¬ A q.1) : Met l y_Compare_advance [.code y_Compare_advance b_Compare_advance 2 none] { frames := 0, cells := 0, slots := 0, locals := 0 } (mm_Pre G [.ref o, .ref lo] (fun H => va_P G.1 cls_all [(o, .inr (1, [v0, v1, v2, v3, v4, .ref sa, .int (nI re), .long st0])), (sa, .inl (G.2.1 1, 24, .inr (.inl se)))] H ∧ va_P G.1 cls_all [] H)) (mm_Qv (fun H => va_P G.1 cls_all [(o, .inr (1, [v0, v1, v2, v3, v4, .ref sa, .int (nI (re + 1)), .long st0])), (sa, .inl (G.2.1 1, 24, .inr (.inl (va_up se re st0))))] H) A) 0 0 A := by
  refine mm_of (by decide) (Nat.le_of_ble_eq_true rfl) ?_
  intro p e s m below meth c ls hx hb hr hk hml hown hnm hK h0 hl
  have hl : lv_has ls 2 [(0, .ref o), (1, .ref lo)] := hl
  obtain ⟨hP, hR⟩ := h0
  have hS : va_S A s.heap s.heap [] := va_S.rf
  refine lv_aload_n hx hb d_Compare_advance_0 rfl (lv_at hl 0 rfl) ?_
  refine mm_get (v := .ref sa) hK hx hb hown lg_Compare_30 hP 0 rfl rfl d_Compare_advance_1 ?_
  refine lv_aload_n hx hb d_Compare_advance_4 rfl (lv_at hl 0 rfl) ?_
  refine lv_dup hx hb d_Compare_advance_5 rfl ?_
  refine mm_get (v := .int (nI re)) hK hx hb hown lg_Compare_34 hP 0 rfl rfl d_Compare_advance_6 ?_
  refine lv_dup_x1 hx hb d_Compare_advance_9 rfl rfl ?_
  refine lv_iconst hx hb d_Compare_advance_10 ci_1 ?_
  refine lv_iadd hx hb d_Compare_advance_11 ?_
  refine mm_ti (nI_add _ _) ?_
  refine mm_put (v := .int (nI (re + 1))) hK hx hb hown lp_Compare_34 hP hD hS 0 rfl rfl rfl (Nat.le_of_ble_eq_true rfl) d_Compare_advance_12 (fun H locs hP hD hS => ?_)
  have hP : va_P G.1 cls_all [(o, .inr (1, [v0, v1, v2, v3, v4, .ref sa, .int (nI (re + 1)), .long st0])), (sa, .inl (G.2.1 1, 24, .inr (.inl se)))] H := hP
  have hD : va_D A [(o, .inr (1, [v0, v1, v2, v3, v4, .ref sa, .int (nI (re + 1)), .long st0])), (sa, .inl (G.2.1 1, 24, .inr (.inl se)))] := hD
  refine lv_aload_n hx hb d_Compare_advance_15 rfl (lv_at hl 0 rfl) ?_
  refine mm_get (v := .long st0) hK hx hb hown lg_Compare_17 hP 0 rfl rfl d_Compare_advance_16 ?_
  refine mm_last (x := st0) hK hx hb hP hD hS 1 rfl (by decide) (i := re) (by omega) d_Compare_advance_19 (fun H locs hP hD hS => ?_)
  have hP : va_P G.1 cls_all [(o, .inr (1, [v0, v1, v2, v3, v4, .ref sa, .int (nI (re + 1)), .long st0])), (sa, .inl (G.2.1 1, 24, .inr (.inl (va_up se re st0))))] H := hP
  have hD : va_D A [(o, .inr (1, [v0, v1, v2, v3, v4, .ref sa, .int (nI (re + 1)), .long st0])), (sa, .inl (G.2.1 1, 24, .inr (.inl (va_up se re st0))))] := hD
  exact mm_vrQ hx hb hr hk hS d_Compare_advance_20 hP
set_option maxHeartbeats 4000000 in
set_option maxRecDepth 100000 in
theorem c_Not_advance (l : Launch) (G : mm_G) {A : Nat → Prop} (o sa re : Nat) (v1 v2 v3 v4 : Value) (se : Nat → Int64) (ln cl : Nat) (hcl : cl < 8) (la0 la1 la2 la3 la4 : Value) (lsa lre : Nat) (lx : List Value) (lse : Nat → Int64) (lo : Nat) (hre : re ≤ lre) (hl24 : lre ≤ 24) (hD : va_D A [(o, .inr (2, [.ref ln, v1, v2, v3, v4, .ref sa, .int (nI re)])), (sa, .inl (G.2.1 1, 24, .inr (.inl se)))]) (hRN : ∀ q ∈ ([(ln, .inr (cl, [la0, la1, la2, la3, la4, .ref lsa, .int (nI lre)] ++ lx)), (lsa, .inl (G.2.1 1, 24, .inr (.inl lse)))] : va_W), ¬ A q.1) : Met l y_Not_advance [.code y_Not_advance b_Not_advance 2 none] { frames := 0, cells := 0, slots := 0, locals := 0 } (mm_Pre G [.ref o, .ref lo] (fun H => va_P G.1 cls_all [(o, .inr (2, [.ref ln, v1, v2, v3, v4, .ref sa, .int (nI re)])), (sa, .inl (G.2.1 1, 24, .inr (.inl se)))] H ∧ va_P G.1 cls_all [(ln, .inr (cl, [la0, la1, la2, la3, la4, .ref lsa, .int (nI lre)] ++ lx)), (lsa, .inl (G.2.1 1, 24, .inr (.inl lse)))] H)) (mm_Qv (fun H => va_P G.1 cls_all [(o, .inr (2, [.ref ln, v1, v2, v3, v4, .ref sa, .int (nI lre)])), (sa, .inl (G.2.1 1, 24, .inr (.inl (exT se (fun j => lse j ^^^ (-1)) re (lre)))))] H) A) 0 0 A := by
  refine mm_of (by decide) (Nat.le_of_ble_eq_true rfl) ?_
  intro p e s m below meth c ls hx hb hr hk hml hown hnm hK h0 hl
  have hl : lv_has ls 2 [(0, .ref o), (1, .ref lo)] := hl
  obtain ⟨hP, hR⟩ := h0
  have hS : va_S A s.heap s.heap [] := va_S.rf
  refine mm_loop (σ := (Nat) × (Nat → Int64)) (fun x ls H locs => match x with | (k, g) => lv_has ls 2 [(0, .ref o), (1, .ref lo)] ∧ va_P G.1 cls_all [(o, .inr (2, [.ref ln, v1, v2, v3, v4, .ref sa, .int (nI k)])), (sa, .inl (G.2.1 1, 24, .inr (.inl g)))] H ∧ va_D A [(o, .inr (2, [.ref ln, v1, v2, v3, v4, .ref sa, .int (nI k)])), (sa, .inl (G.2.1 1, 24, .inr (.inl g)))] ∧ va_S A s.heap H locs ∧ (re ≤ k ∧ k ≤ lre) ∧ (g = exT se (fun j => lse j ^^^ (-1)) re k)) (fun x => match x with | (k, g) => lre - k) ?_ (re, se) _ _ _ ⟨(lv_sub hl [0, 1] rfl), hP, hD, hS, ⟨Nat.le_refl _, by omega⟩, exT_0.symm⟩
  rintro ⟨k, g⟩ ls H locs ⟨hl, hP, hD, hS, hk9, hg⟩ ih0
  refine lv_aload_n hx hb d_Not_advance_0 rfl (lv_at hl 0 rfl) ?_
  refine mm_get (v := .int (nI k)) hK hx hb hown lg_Not_11 hP 0 rfl rfl d_Not_advance_1 ?_
  refine lv_aload_n hx hb d_Not_advance_4 rfl (lv_at hl 0 rfl) ?_
  refine mm_get (v := .ref ln) hK hx hb hown lg_Not_16 hP 0 rfl rfl d_Not_advance_5 ?_
  refine mm_get (v := .int (nI lre)) hK hx hb hown (lg_Not_20 cl hcl) (mm_ro hR hRN hS) 0 rfl rfl d_Not_advance_8 ?_
  refine lv_icmp_ge hx hb d_Not_advance_11 (tgt := 52) (by decide) (fun c11 => ?_) (fun c11 => ?_)
  · have c11 : k ≥ lre := nb_get (by omega) (by omega) c11
    exact mm_vrQ hx hb hr hk hS d_Not_advance_52 (by rw [hg, show k = lre by omega] at hP; exact hP)
  · have c11 : k < lre := nb_gef (by omega) (by omega) c11
    refine lv_aload_n hx hb d_Not_advance_14 rfl (lv_at hl 0 rfl) ?_
    refine mm_get (v := .ref sa) hK hx hb hown lg_Not_21 hP 0 rfl rfl d_Not_advance_15 ?_
    refine lv_aload_n hx hb d_Not_advance_18 rfl (lv_at hl 0 rfl) ?_
    refine mm_get (v := .int (nI k)) hK hx hb hown lg_Not_11 hP 0 rfl rfl d_Not_advance_19 ?_
    refine lv_aload_n hx hb d_Not_advance_22 rfl (lv_at hl 0 rfl) ?_
    refine mm_get (v := .ref ln) hK hx hb hown lg_Not_16 hP 0 rfl rfl d_Not_advance_23 ?_
    refine mm_get (v := .ref lsa) hK hx hb hown (lg_Not_25 cl hcl) (mm_ro hR hRN hS) 0 rfl rfl d_Not_advance_26 ?_
    refine lv_aload_n hx hb d_Not_advance_29 rfl (lv_at hl 0 rfl) ?_
    refine mm_get (v := .int (nI k)) hK hx hb hown lg_Not_11 hP 0 rfl rfl d_Not_advance_30 ?_
    refine mm_lald hK hx hb (mm_ro hR hRN hS) 1 rfl (by decide) (i := k) (by omega) d_Not_advance_33 ?_
    refine lv_ldc2 hx hb hown (hK.w kw_653) d_Not_advance_34 ?_
    refine lv_lxor hx hb d_Not_advance_37 ?_
    refine mm_last (x := (lse k) ^^^ (-1)) hK hx hb hP hD hS 1 rfl (by decide) (i := k) (by omega) d_Not_advance_38 (fun H locs hP hD hS => ?_)
    have hP : va_P G.1 cls_all [(o, .inr (2, [.ref ln, v1, v2, v3, v4, .ref sa, .int (nI k)])), (sa, .inl (G.2.1 1, 24, .inr (.inl (va_up g k ((lse k) ^^^ (-1))))))] H := hP
    have hD : va_D A [(o, .inr (2, [.ref ln, v1, v2, v3, v4, .ref sa, .int (nI k)])), (sa, .inl (G.2.1 1, 24, .inr (.inl (va_up g k ((lse k) ^^^ (-1))))))] := hD
    refine lv_aload_n hx hb d_Not_advance_39 rfl (lv_at hl 0 rfl) ?_
    refine lv_dup hx hb d_Not_advance_40 rfl ?_
    refine mm_get (v := .int (nI k)) hK hx hb hown lg_Not_11 hP 0 rfl rfl d_Not_advance_41 ?_
    refine lv_iconst hx hb d_Not_advance_44 ci_1 ?_
    refine lv_iadd hx hb d_Not_advance_45 ?_
    refine mm_ti (nI_add _ _) ?_
    refine mm_put (v := .int (nI (k + 1))) hK hx hb hown lp_Not_11 hP hD hS 0 rfl rfl rfl (Nat.le_of_ble_eq_true rfl) d_Not_advance_46 (fun H locs hP hD hS => ?_)
    have hP : va_P G.1 cls_all [(o, .inr (2, [.ref ln, v1, v2, v3, v4, .ref sa, .int (nI (k + 1))])), (sa, .inl (G.2.1 1, 24, .inr (.inl (va_up g k ((lse k) ^^^ (-1))))))] H := hP
    have hD : va_D A [(o, .inr (2, [.ref ln, v1, v2, v3, v4, .ref sa, .int (nI (k + 1))])), (sa, .inl (G.2.1 1, 24, .inr (.inl (va_up g k ((lse k) ^^^ (-1))))))] := hD
    refine lv_goto hx hb d_Not_advance_49 (tgt := 0) (by decide) ?_
    exact ih0 ((k + 1), (va_up g k ((lse k) ^^^ (-1)))) _ _ _ ⟨(lv_sub hl [0, 1] rfl), hP, hD, hS, ⟨by omega, by omega⟩, (by rw [hg]; exact exT_s (F := fun j => lse j ^^^ (-1)) (by omega))⟩ (by (try dsimp only); omega)
set_option maxHeartbeats 4000000 in
set_option maxRecDepth 100000 in
theorem c_Exists_advance (l : Launch) (G : mm_G) {A : Nat → Prop} (Z : Nat × Nat) (o sa re : Nat) (v1 v2 v3 v4 : Value) (se : Nat → Int64) (ln cl : Nat) (hcl : cl < 8) (la0 la1 la2 la3 la4 : Value) (lsa lre : Nat) (lx : List Value) (lse : Nat → Int64) (vr lo : Nat) (hvr : vr ≤ 2) (hre : re ≤ lre) (hl24 : lre ≤ 24) (hD : va_D A [(o, .inr (4, [.ref ln, v1, v2, v3, v4, .ref sa, .int (nI re), .int (nI vr)])), (sa, .inl (G.2.1 1, 24, .inr (.inl se)))]) (hRN : ∀ q ∈ ([(ln, .inr (cl, [la0, la1, la2, la3, la4, .ref lsa, .int (nI lre)] ++ lx)), (lsa, .inl (G.2.1 1, 24, .inr (.inl lse)))] : va_W), ¬ A q.1) : Met l y_Exists_advance [.code y_Exists_advance b_Exists_advance 2 none] { frames := 1, cells := 0, slots := 0, locals := 25 } (mn_Pre G A Z [.ref o, .ref lo] (fun H => va_P G.1 cls_all [(o, .inr (4, [.ref ln, v1, v2, v3, v4, .ref sa, .int (nI re), .int (nI vr)])), (sa, .inl (G.2.1 1, 24, .inr (.inl se)))] H ∧ va_P G.1 cls_all [(ln, .inr (cl, [la0, la1, la2, la3, la4, .ref lsa, .int (nI lre)] ++ lx)), (lsa, .inl (G.2.1 1, 24, .inr (.inl lse)))] H)) (mm_Qv (fun H => va_P G.1 cls_all [(o, .inr (4, [.ref ln, v1, v2, v3, v4, .ref sa, .int (nI lre), .int (nI vr)])), (sa, .inl (G.2.1 1, 24, .inr (.inl (exT se (fun j => anV vr (lse j)) re (lre)))))] H) A) 0 0 A := by
  refine mn_of (by decide) (Nat.le_of_ble_eq_true rfl) ?_
  intro p e s m below meth c ls hx hb hr hk hml hown hnm hK hT h0 hl
  have hl : lv_has ls 2 [(0, .ref o), (1, .ref lo)] := hl
  obtain ⟨hP, hR⟩ := h0
  have hS : va_S A s.heap s.heap [] := va_S.rf
  refine mm_loop (σ := (Nat) × (Nat → Int64)) (fun x ls H locs => match x with | (k, g) => lv_has ls 2 [(0, .ref o), (1, .ref lo)] ∧ va_P G.1 cls_all [(o, .inr (4, [.ref ln, v1, v2, v3, v4, .ref sa, .int (nI k), .int (nI vr)])), (sa, .inl (G.2.1 1, 24, .inr (.inl g)))] H ∧ va_D A [(o, .inr (4, [.ref ln, v1, v2, v3, v4, .ref sa, .int (nI k), .int (nI vr)])), (sa, .inl (G.2.1 1, 24, .inr (.inl g)))] ∧ va_S A s.heap H locs ∧ (re ≤ k ∧ k ≤ lre) ∧ (g = exT se (fun j => anV vr (lse j)) re k)) (fun x => match x with | (k, g) => lre - k) ?_ (re, se) _ _ _ ⟨(lv_sub hl [0, 1] rfl), hP, hD, hS, ⟨Nat.le_refl _, by omega⟩, exT_0.symm⟩
  rintro ⟨k, g⟩ ls H locs ⟨hl, hP, hD, hS, hk9, hg⟩ ih0
  refine lv_aload_n hx hb d_Exists_advance_0 rfl (lv_at hl 0 rfl) ?_
  refine mm_get (v := .int (nI k)) hK hx hb hown lg_Exists_30 hP 0 rfl rfl d_Exists_advance_1 ?_
  refine lv_aload_n hx hb d_Exists_advance_4 rfl (lv_at hl 0 rfl) ?_
  refine mm_get (v := .ref ln) hK hx hb hown lg_Exists_33 hP 0 rfl rfl d_Exists_advance_5 ?_
  refine mm_get (v := .int (nI lre)) hK hx hb hown (lg_Exists_37 cl hcl) (mm_ro hR hRN hS) 0 rfl rfl d_Exists_advance_8 ?_
  refine lv_icmp_ge hx hb d_Exists_advance_11 (tgt := 52) (by decide) (fun c11 => ?_) (fun c11 => ?_)
  · have c11 : k ≥ lre := nb_get (by omega) (by omega) c11
    exact mm_vrQ hx hb hr hk hS d_Exists_advance_52 (by rw [hg, show k = lre by omega] at hP; exact hP)
  · have c11 : k < lre := nb_gef (by omega) (by omega) c11
    refine lv_aload_n hx hb d_Exists_advance_14 rfl (lv_at hl 0 rfl) ?_
    refine mm_get (v := .ref sa) hK hx hb hown lg_Exists_38 hP 0 rfl rfl d_Exists_advance_15 ?_
    refine lv_aload_n hx hb d_Exists_advance_18 rfl (lv_at hl 0 rfl) ?_
    refine mm_get (v := .int (nI k)) hK hx hb hown lg_Exists_30 hP 0 rfl rfl d_Exists_advance_19 ?_
    refine lv_aload_n hx hb d_Exists_advance_22 rfl (lv_at hl 0 rfl) ?_
    refine lv_aload_n hx hb d_Exists_advance_23 rfl (lv_at hl 0 rfl) ?_
    refine mm_get (v := .ref ln) hK hx hb hown lg_Exists_33 hP 0 rfl rfl d_Exists_advance_24 ?_
    refine mm_get (v := .ref lsa) hK hx hb hown (lg_Exists_41 cl hcl) (mm_ro hR hRN hS) 0 rfl rfl d_Exists_advance_27 ?_
    refine lv_aload_n hx hb d_Exists_advance_30 rfl (lv_at hl 0 rfl) ?_
    refine mm_get (v := .int (nI k)) hK hx hb hown lg_Exists_30 hP 0 rfl rfl d_Exists_advance_31 ?_
    refine mm_lald hK hx hb (mm_ro hR hRN hS) 1 rfl (by decide) (i := k) (by omega) d_Exists_advance_34 ?_
    refine mm_sl (mn_runV hK hT hS (fun q h => h) ⟨hx, hb, hml, hown⟩ lk_Exists_42 (c_Exists_any l G Z o (.ref ln) v1 v2 v3 v4 (.ref sa) (.int (nI k)) vr (lse k) hvr) ⟨rfl, rfl, by decide, by decide⟩ (mm_rc hK hP 0 rfl rfl) (hP.sub (ws' := [(o, .inr (4, [.ref ln, v1, v2, v3, v4, .ref sa, .int (nI k), .int (nI vr)]))]) [0] rfl) rfl hl.1 rfl (Nat.le_of_ble_eq_true rfl) ⟨by decide, by decide⟩ d_Exists_advance_35) (fun r35 e35 => ?_)
    subst e35
    refine mm_last (x := anV vr (lse k)) hK hx hb hP hD hS 1 rfl (by decide) (i := k) (by omega) d_Exists_advance_38 (fun H locs hP hD hS => ?_)
    have hP : va_P G.1 cls_all [(o, .inr (4, [.ref ln, v1, v2, v3, v4, .ref sa, .int (nI k), .int (nI vr)])), (sa, .inl (G.2.1 1, 24, .inr (.inl (va_up g k (anV vr (lse k))))))] H := hP
    have hD : va_D A [(o, .inr (4, [.ref ln, v1, v2, v3, v4, .ref sa, .int (nI k), .int (nI vr)])), (sa, .inl (G.2.1 1, 24, .inr (.inl (va_up g k (anV vr (lse k))))))] := hD
    refine lv_aload_n hx hb d_Exists_advance_39 rfl (lv_at hl 0 rfl) ?_
    refine lv_dup hx hb d_Exists_advance_40 rfl ?_
    refine mm_get (v := .int (nI k)) hK hx hb hown lg_Exists_30 hP 0 rfl rfl d_Exists_advance_41 ?_
    refine lv_iconst hx hb d_Exists_advance_44 ci_1 ?_
    refine lv_iadd hx hb d_Exists_advance_45 ?_
    refine mm_ti (nI_add _ _) ?_
    refine mm_put (v := .int (nI (k + 1))) hK hx hb hown lp_Exists_30 hP hD hS 0 rfl rfl rfl (Nat.le_of_ble_eq_true rfl) d_Exists_advance_46 (fun H locs hP hD hS => ?_)
    have hP : va_P G.1 cls_all [(o, .inr (4, [.ref ln, v1, v2, v3, v4, .ref sa, .int (nI (k + 1)), .int (nI vr)])), (sa, .inl (G.2.1 1, 24, .inr (.inl (va_up g k (anV vr (lse k))))))] H := hP
    have hD : va_D A [(o, .inr (4, [.ref ln, v1, v2, v3, v4, .ref sa, .int (nI (k + 1)), .int (nI vr)])), (sa, .inl (G.2.1 1, 24, .inr (.inl (va_up g k (anV vr (lse k))))))] := hD
    refine lv_goto hx hb d_Exists_advance_49 (tgt := 0) (by decide) ?_
    exact ih0 ((k + 1), (va_up g k (anV vr (lse k)))) _ _ _ ⟨(lv_sub hl [0, 1] rfl), hP, hD, hS, ⟨by omega, by omega⟩, (by rw [hg]; exact exT_s (F := fun j => anV vr (lse j)) (by omega))⟩ (by (try dsimp only); omega)
set_option maxHeartbeats 4000000 in
set_option maxRecDepth 100000 in
theorem c_Join_advance (l : Launch) (G : mm_G) {A : Nat → Prop} (o sa re : Nat) (v2 v3 v4 : Value) (se : Nat → Int64) (ln cl : Nat) (hcl : cl < 8) (la0 la1 la2 la3 la4 : Value) (lsa lre : Nat) (lx : List Value) (lse : Nat → Int64) (rn cr : Nat) (hcr : cr < 8) (ra0 ra1 ra2 ra3 ra4 : Value) (rsa rre : Nat) (rx : List Value) (rse : Nat → Int64) (an : Bool) (lo : Nat) (hre : re ≤ min lre rre) (hl24 : lre ≤ 24) (hr24 : rre ≤ 24) (hD : va_D A [(o, .inr (3, [.ref ln, .ref rn, v2, v3, v4, .ref sa, .int (nI re), .int (bI an)])), (sa, .inl (G.2.1 1, 24, .inr (.inl se)))]) (hRN : ∀ q ∈ ([(ln, .inr (cl, [la0, la1, la2, la3, la4, .ref lsa, .int (nI lre)] ++ lx)), (lsa, .inl (G.2.1 1, 24, .inr (.inl lse))), (rn, .inr (cr, [ra0, ra1, ra2, ra3, ra4, .ref rsa, .int (nI rre)] ++ rx)), (rsa, .inl (G.2.1 1, 24, .inr (.inl rse)))] : va_W), ¬ A q.1) : Met l y_Join_advance [.code y_Join_advance b_Join_advance 7 none] { frames := 2, cells := 0, slots := 0, locals := 33 } (mm_Pre G [.ref o, .ref lo] (fun H => va_P G.1 cls_all [(o, .inr (3, [.ref ln, .ref rn, v2, v3, v4, .ref sa, .int (nI re), .int (bI an)])), (sa, .inl (G.2.1 1, 24, .inr (.inl se)))] H ∧ va_P G.1 cls_all [(ln, .inr (cl, [la0, la1, la2, la3, la4, .ref lsa, .int (nI lre)] ++ lx)), (lsa, .inl (G.2.1 1, 24, .inr (.inl lse))), (rn, .inr (cr, [ra0, ra1, ra2, ra3, ra4, .ref rsa, .int (nI rre)] ++ rx)), (rsa, .inl (G.2.1 1, 24, .inr (.inl rse)))] H)) (mm_Qv (fun H => va_P G.1 cls_all [(o, .inr (3, [.ref ln, .ref rn, v2, v3, v4, .ref sa, .int (nI (min lre rre)), .int (bI an)])), (sa, .inl (G.2.1 1, 24, .inr (.inl (exT se (joF an lse rse) re (min lre rre)))))] H) A) 0 0 A := by
  refine mm_of (by decide) (Nat.le_of_ble_eq_true rfl) ?_
  intro p e s m below meth c ls hx hb hr hk hml hown hnm hK h0 hl
  have hl : lv_has ls 7 [(0, .ref o), (1, .ref lo)] := hl
  obtain ⟨hP, hR⟩ := h0
  have hS : va_S A s.heap s.heap [] := va_S.rf
  refine lv_aload_n hx hb d_Join_advance_0 rfl (lv_at hl 0 rfl) ?_
  refine mm_si (mm_runU hK ⟨hx, hb, hml, hown⟩ lk_Join_21_Join (c_Formula_both l G o 3 (by decide) [.int (bI an)] v2 v3 v4 (.ref sa) (.int (nI re)) ln cl hcl la0 la1 la2 la3 la4 (.ref lsa) lre lx rn cr hcr ra0 ra1 ra2 ra3 ra4 (.ref rsa) rre rx (by omega) (by omega)) ⟨rfl, rfl, by decide, by decide⟩ (mm_rc hK hP 0 rfl rfl) ((hP.sub (ws' := [(o, .inr (3, [.ref ln, .ref rn, v2, v3, v4, .ref sa, .int (nI re), .int (bI an)]))]) [0] rfl).app ((mm_ro hR hRN hS).sub (ws' := [(ln, .inr (cl, [la0, la1, la2, la3, la4, .ref lsa, .int (nI lre)] ++ lx)), (rn, .inr (cr, [ra0, ra1, ra2, ra3, ra4, .ref rsa, .int (nI rre)] ++ rx))]) [0, 2] rfl)) rfl hl.1 rfl (Nat.le_of_ble_eq_true rfl) ⟨by decide, by decide⟩ d_Join_advance_1) (fun r1 e1 => ?_)
  subst e1
  refine lv_istore_n (lv' := [(2, .int (nI (min lre rre))), (0, .ref o), (1, .ref lo)]) hx hb d_Join_advance_4 rfl hl (by decide) rfl (fun ls hl => ?_)
  refine mm_loop (σ := (Nat) × (Nat → Int64)) (fun x ls H locs => match x with | (k, g) => lv_has ls 7 [(0, .ref o), (1, .ref lo), (2, .int (nI (min lre rre)))] ∧ va_P G.1 cls_all [(o, .inr (3, [.ref ln, .ref rn, v2, v3, v4, .ref sa, .int (nI k), .int (bI an)])), (sa, .inl (G.2.1 1, 24, .inr (.inl g)))] H ∧ va_D A [(o, .inr (3, [.ref ln, .ref rn, v2, v3, v4, .ref sa, .int (nI k), .int (bI an)])), (sa, .inl (G.2.1 1, 24, .inr (.inl g)))] ∧ va_S A s.heap H locs ∧ (re ≤ k ∧ k ≤ min lre rre) ∧ (g = exT se (joF an lse rse) re k)) (fun x => match x with | (k, g) => min lre rre - k) ?_ (re, se) _ _ _ ⟨(lv_sub hl [1, 2, 0] rfl), hP, hD, hS, ⟨Nat.le_refl _, by omega⟩, exT_0.symm⟩
  rintro ⟨k, g⟩ ls H locs ⟨hl, hP, hD, hS, hk9, hg⟩ ih5
  refine lv_aload_n hx hb d_Join_advance_5 rfl (lv_at hl 0 rfl) ?_
  refine mm_get (v := .int (nI k)) hK hx hb hown lg_Join_25 hP 0 rfl rfl d_Join_advance_6 ?_
  refine lv_iload_n hx hb d_Join_advance_9 rfl (lv_at hl 2 rfl) ?_
  refine lv_icmp_ge hx hb d_Join_advance_10 (tgt := 80) (by decide) (fun c10 => ?_) (fun c10 => ?_)
  · have c10 : k ≥ min lre rre := nb_get (by omega) (by omega) c10
    exact mm_vrQ hx hb hr hk hS d_Join_advance_80 (by rw [hg, show k = min lre rre by omega] at hP; exact hP)
  · have c10 : k < min lre rre := nb_gef (by omega) (by omega) c10
    refine lv_aload_n hx hb d_Join_advance_13 rfl (lv_at hl 0 rfl) ?_
    refine mm_get (v := .ref ln) hK hx hb hown lg_Join_28 hP 0 rfl rfl d_Join_advance_14 ?_
    refine mm_get (v := .ref lsa) hK hx hb hown (lg_Join_32 cl hcl) (mm_ro hR hRN hS) 0 rfl rfl d_Join_advance_17 ?_
    refine lv_aload_n hx hb d_Join_advance_20 rfl (lv_at hl 0 rfl) ?_
    refine mm_get (v := .int (nI k)) hK hx hb hown lg_Join_25 hP 0 rfl rfl d_Join_advance_21 ?_
    refine mm_lald hK hx hb (mm_ro hR hRN hS) 1 rfl (by decide) (i := k) (by omega) d_Join_advance_24 ?_
    refine lv_lstore_n (lv' := [(3, .long (lse k)), (0, .ref o), (1, .ref lo), (2, .int (nI (min lre rre)))]) hx hb d_Join_advance_25 rfl hl (by decide) rfl (fun ls hl => ?_)
    refine lv_aload_n hx hb d_Join_advance_26 rfl (lv_at hl 1 rfl) ?_
    refine mm_get (v := .ref rn) hK hx hb hown lg_Join_36 hP 0 rfl rfl d_Join_advance_27 ?_
    refine mm_get (v := .ref rsa) hK hx hb hown (lg_Join_32 cr hcr) (mm_ro hR hRN hS) 2 rfl rfl d_Join_advance_30 ?_
    refine lv_aload_n hx hb d_Join_advance_33 rfl (lv_at hl 1 rfl) ?_
    refine mm_get (v := .int (nI k)) hK hx hb hown lg_Join_25 hP 0 rfl rfl d_Join_advance_34 ?_
    refine mm_lald hK hx hb (mm_ro hR hRN hS) 3 rfl (by decide) (i := k) (by omega) d_Join_advance_37 ?_
    refine lv_lstore (lv' := [(5, .long (rse k)), (3, .long (lse k)), (0, .ref o), (1, .ref lo), (2, .int (nI (min lre rre)))]) hx hb d_Join_advance_38 hl (by decide) rfl (fun ls hl => ?_)
    refine lv_aload_n hx hb d_Join_advance_40 rfl (lv_at hl 2 rfl) ?_
    refine mm_get (v := .ref sa) hK hx hb hown lg_Join_39 hP 0 rfl rfl d_Join_advance_41 ?_
    refine lv_aload_n hx hb d_Join_advance_44 rfl (lv_at hl 2 rfl) ?_
    refine mm_get (v := .int (nI k)) hK hx hb hown lg_Join_25 hP 0 rfl rfl d_Join_advance_45 ?_
    refine lv_aload_n hx hb d_Join_advance_48 rfl (lv_at hl 2 rfl) ?_
    refine mm_get (v := .int (bI an)) hK hx hb hown lg_Join_11 hP 0 rfl rfl d_Join_advance_49 ?_
    refine mm_ifeqB hx hb d_Join_advance_52 (tgt := 62) (by decide) (fun c52 => ?_) (fun c52 => ?_)
    · refine lv_lload_n hx hb d_Join_advance_62 rfl (lv_at hl 1 rfl) ?_
      refine lv_lload hx hb d_Join_advance_63 (lv_at hl 0 rfl) ?_
      refine lv_lor hx hb d_Join_advance_65 ?_
      refine mm_last (x := (lse k) ||| (rse k)) hK hx hb hP hD hS 1 rfl (by decide) (i := k) (by omega) d_Join_advance_66 (fun H locs hP hD hS => ?_)
      have hP : va_P G.1 cls_all [(o, .inr (3, [.ref ln, .ref rn, v2, v3, v4, .ref sa, .int (nI k), .int (bI an)])), (sa, .inl (G.2.1 1, 24, .inr (.inl (va_up g k ((lse k) ||| (rse k))))))] H := hP
      have hD : va_D A [(o, .inr (3, [.ref ln, .ref rn, v2, v3, v4, .ref sa, .int (nI k), .int (bI an)])), (sa, .inl (G.2.1 1, 24, .inr (.inl (va_up g k ((lse k) ||| (rse k))))))] := hD
      refine lv_aload_n hx hb d_Join_advance_67 rfl (lv_at hl 2 rfl) ?_
      refine lv_dup hx hb d_Join_advance_68 rfl ?_
      refine mm_get (v := .int (nI k)) hK hx hb hown lg_Join_25 hP 0 rfl rfl d_Join_advance_69 ?_
      refine lv_iconst hx hb d_Join_advance_72 ci_1 ?_
      refine lv_iadd hx hb d_Join_advance_73 ?_
      refine mm_ti (nI_add _ _) ?_
      refine mm_put (v := .int (nI (k + 1))) hK hx hb hown lp_Join_25 hP hD hS 0 rfl rfl rfl (Nat.le_of_ble_eq_true rfl) d_Join_advance_74 (fun H locs hP hD hS => ?_)
      have hP : va_P G.1 cls_all [(o, .inr (3, [.ref ln, .ref rn, v2, v3, v4, .ref sa, .int (nI (k + 1)), .int (bI an)])), (sa, .inl (G.2.1 1, 24, .inr (.inl (va_up g k ((lse k) ||| (rse k))))))] H := hP
      have hD : va_D A [(o, .inr (3, [.ref ln, .ref rn, v2, v3, v4, .ref sa, .int (nI (k + 1)), .int (bI an)])), (sa, .inl (G.2.1 1, 24, .inr (.inl (va_up g k ((lse k) ||| (rse k))))))] := hD
      refine lv_goto hx hb d_Join_advance_77 (tgt := 5) (by decide) ?_
      exact ih5 ((k + 1), (va_up g k ((lse k) ||| (rse k)))) _ _ _ ⟨(lv_sub hl [2, 3, 4] rfl), hP, hD, hS, ⟨by omega, by omega⟩, (by rw [hg, show (lse k) ||| (rse k) = joF an lse rse k from by unfold joF; rw [c52]; rfl]; exact exT_s (by omega))⟩ (by (try dsimp only); omega)
    · refine lv_lload_n hx hb d_Join_advance_55 rfl (lv_at hl 1 rfl) ?_
      refine lv_lload hx hb d_Join_advance_56 (lv_at hl 0 rfl) ?_
      refine lv_land hx hb d_Join_advance_58 ?_
      refine lv_goto hx hb d_Join_advance_59 (tgt := 66) (by decide) ?_
      refine mm_last (x := (lse k) &&& (rse k)) hK hx hb hP hD hS 1 rfl (by decide) (i := k) (by omega) d_Join_advance_66 (fun H locs hP hD hS => ?_)
      have hP : va_P G.1 cls_all [(o, .inr (3, [.ref ln, .ref rn, v2, v3, v4, .ref sa, .int (nI k), .int (bI an)])), (sa, .inl (G.2.1 1, 24, .inr (.inl (va_up g k ((lse k) &&& (rse k))))))] H := hP
      have hD : va_D A [(o, .inr (3, [.ref ln, .ref rn, v2, v3, v4, .ref sa, .int (nI k), .int (bI an)])), (sa, .inl (G.2.1 1, 24, .inr (.inl (va_up g k ((lse k) &&& (rse k))))))] := hD
      refine lv_aload_n hx hb d_Join_advance_67 rfl (lv_at hl 2 rfl) ?_
      refine lv_dup hx hb d_Join_advance_68 rfl ?_
      refine mm_get (v := .int (nI k)) hK hx hb hown lg_Join_25 hP 0 rfl rfl d_Join_advance_69 ?_
      refine lv_iconst hx hb d_Join_advance_72 ci_1 ?_
      refine lv_iadd hx hb d_Join_advance_73 ?_
      refine mm_ti (nI_add _ _) ?_
      refine mm_put (v := .int (nI (k + 1))) hK hx hb hown lp_Join_25 hP hD hS 0 rfl rfl rfl (Nat.le_of_ble_eq_true rfl) d_Join_advance_74 (fun H locs hP hD hS => ?_)
      have hP : va_P G.1 cls_all [(o, .inr (3, [.ref ln, .ref rn, v2, v3, v4, .ref sa, .int (nI (k + 1)), .int (bI an)])), (sa, .inl (G.2.1 1, 24, .inr (.inl (va_up g k ((lse k) &&& (rse k))))))] H := hP
      have hD : va_D A [(o, .inr (3, [.ref ln, .ref rn, v2, v3, v4, .ref sa, .int (nI (k + 1)), .int (bI an)])), (sa, .inl (G.2.1 1, 24, .inr (.inl (va_up g k ((lse k) &&& (rse k))))))] := hD
      refine lv_goto hx hb d_Join_advance_77 (tgt := 5) (by decide) ?_
      exact ih5 ((k + 1), (va_up g k ((lse k) &&& (rse k)))) _ _ _ ⟨(lv_sub hl [2, 3, 4] rfl), hP, hD, hS, ⟨by omega, by omega⟩, (by rw [hg, show (lse k) &&& (rse k) = joF an lse rse k from by unfold joF; rw [c52]; rfl]; exact exT_s (by omega))⟩ (by (try dsimp only); omega)
set_option maxHeartbeats 4000000 in
set_option maxRecDepth 100000 in
theorem c_Previous_advance (l : Launch) (G : mm_G) {A : Nat → Prop} (o sa re : Nat) (v1 v2 v3 v4 : Value) (se : Nat → Int64) (ln cl : Nat) (hcl : cl < 8) (la0 la1 la2 la3 la4 : Value) (lsa lre : Nat) (lx : List Value) (lse : Nat → Int64) (lo ta pa0 np : Nat) (tm pv : Nat → Nat) (iv lw e0 : Nat) (hT0 : TL np tm) (h1 : lw < 2 ^ 30) (h2 : e0 < 2 ^ 30) (hre : re ≤ min np (lre + 1)) (hl24 : lre ≤ np) (hD : va_D A [(o, .inr (5, [.ref ln, v1, v2, v3, v4, .ref sa, .int (nI re), .ref iv])), (sa, .inl (G.2.1 1, 24, .inr (.inl se)))]) (hRN : ∀ q ∈ ([(ln, .inr (cl, [la0, la1, la2, la3, la4, .ref lsa, .int (nI lre)] ++ lx)), (lsa, .inl (G.2.1 1, 24, .inr (.inl lse))), (lo, .inr (9, [.ref ta, .int (nI np), .ref pa0])), (ta, .inl (G.2.1 0, 24, .inl (nA tm))), (pa0, .inl (G.2.1 2, 3, .inl (nA pv))), (iv, .inr (8, [.int (nI lw), .int (nI e0 - 1)]))] : va_W), ¬ A q.1) : Met l y_Previous_advance [.code y_Previous_advance b_Previous_advance 3 none] { frames := 1, cells := 0, slots := 0, locals := 22 } (mm_Pre G [.ref o, .ref lo] (fun H => va_P G.1 cls_all [(o, .inr (5, [.ref ln, v1, v2, v3, v4, .ref sa, .int (nI re), .ref iv])), (sa, .inl (G.2.1 1, 24, .inr (.inl se)))] H ∧ va_P G.1 cls_all [(ln, .inr (cl, [la0, la1, la2, la3, la4, .ref lsa, .int (nI lre)] ++ lx)), (lsa, .inl (G.2.1 1, 24, .inr (.inl lse))), (lo, .inr (9, [.ref ta, .int (nI np), .ref pa0])), (ta, .inl (G.2.1 0, 24, .inl (nA tm))), (pa0, .inl (G.2.1 2, 3, .inl (nA pv))), (iv, .inr (8, [.int (nI lw), .int (nI e0 - 1)]))] H)) (mm_Qv (fun H => va_P G.1 cls_all [(o, .inr (5, [.ref ln, v1, v2, v3, v4, .ref sa, .int (nI (min np (lre + 1))), .ref iv])), (sa, .inl (G.2.1 1, 24, .inr (.inl (exT se (pvF lse tm lw e0) re (min np (lre + 1))))))] H) A) 0 0 A := by
  refine mm_of (by decide) (Nat.le_of_ble_eq_true rfl) ?_
  intro p e s m below meth c ls hx hb hr hk hml hown hnm hK h0 hl
  have hl : lv_has ls 3 [(0, .ref o), (1, .ref lo)] := hl
  obtain ⟨hP, hR⟩ := h0
  have hS : va_S A s.heap s.heap [] := va_S.rf
  obtain ⟨t1, t2, t3⟩ := hT0
  refine mm_loop (σ := (Nat) × (Nat → Int64)) (fun x ls H locs => match x with | (k, g) => lv_has ls 3 [(0, .ref o), (1, .ref lo)] ∧ va_P G.1 cls_all [(o, .inr (5, [.ref ln, v1, v2, v3, v4, .ref sa, .int (nI k), .ref iv])), (sa, .inl (G.2.1 1, 24, .inr (.inl g)))] H ∧ va_D A [(o, .inr (5, [.ref ln, v1, v2, v3, v4, .ref sa, .int (nI k), .ref iv])), (sa, .inl (G.2.1 1, 24, .inr (.inl g)))] ∧ va_S A s.heap H locs ∧ (re ≤ k ∧ k ≤ min np (lre + 1)) ∧ (g = exT se (pvF lse tm lw e0) re k)) (fun x => match x with | (k, g) => min np (lre + 1) - k) ?_ (re, se) _ _ _ ⟨(lv_sub hl [0, 1] rfl), hP, hD, hS, ⟨Nat.le_refl _, by omega⟩, exT_0.symm⟩
  rintro ⟨k, g⟩ ls H locs ⟨hl, hP, hD, hS, hk9, hg⟩ ih0
  refine lv_aload_n hx hb d_Previous_advance_0 rfl (lv_at hl 0 rfl) ?_
  refine mm_get (v := .int (nI k)) hK hx hb hown lg_Previous_21 hP 0 rfl rfl d_Previous_advance_1 ?_
  refine lv_aload_n hx hb d_Previous_advance_4 rfl (lv_at hl 1 rfl) ?_
  refine mm_get (v := .int (nI np)) hK hx hb hown lg_Previous_24 (mm_ro hR hRN hS) 2 rfl rfl d_Previous_advance_5 ?_
  refine lv_icmp_ge hx hb d_Previous_advance_8 (tgt := 106) (by decide) (fun c8 => ?_) (fun c8 => ?_)
  · have c8 : k ≥ np := nb_get (by omega) (by omega) c8
    exact mm_vrQ hx hb hr hk hS d_Previous_advance_106 (by rw [hg, show k = min np (lre + 1) by omega] at hP; exact hP)
  · have c8 : k < np := nb_gef (by omega) (by omega) c8
    refine lv_aload_n hx hb d_Previous_advance_11 rfl (lv_at hl 0 rfl) ?_
    refine mm_get (v := .int (nI k)) hK hx hb hown lg_Previous_21 hP 0 rfl rfl d_Previous_advance_12 ?_
    refine lv_aload_n hx hb d_Previous_advance_15 rfl (lv_at hl 0 rfl) ?_
    refine mm_get (v := .ref ln) hK hx hb hown lg_Previous_29 hP 0 rfl rfl d_Previous_advance_16 ?_
    refine mm_get (v := .int (nI lre)) hK hx hb hown (lg_Previous_33 cl hcl) (mm_ro hR hRN hS) 0 rfl rfl d_Previous_advance_19 ?_
    refine lv_icmp_gt hx hb d_Previous_advance_22 (tgt := 106) (by decide) (fun c22 => ?_) (fun c22 => ?_)
    · have c22 : k > lre := nb_gtt (by omega) (by omega) c22
      exact mm_vrQ hx hb hr hk hS d_Previous_advance_106 (by rw [hg, show k = min np (lre + 1) by omega] at hP; exact hP)
    · have c22 : k ≤ lre := nb_gtf (by omega) (by omega) c22
      refine lv_aload_n hx hb d_Previous_advance_25 rfl (lv_at hl 0 rfl) ?_
      refine mm_get (v := .int (nI k)) hK hx hb hown lg_Previous_21 hP 0 rfl rfl d_Previous_advance_26 ?_
      refine lv_if_le hx hb d_Previous_advance_29 (tgt := 60) (by decide) (fun c29 => ?_) (fun c29 => ?_)
      · have c29 : k ≤ 0 := nb_zlet (by omega) c29
        refine lv_iconst hx hb d_Previous_advance_60 ci_0 ?_
        refine mm_ti (y := bI false) (by decide) ?_
        refine lv_istore_n (lv' := [(2, .int (bI false)), (0, .ref o), (1, .ref lo)]) hx hb d_Previous_advance_61 rfl hl (by decide) rfl (fun ls hl => ?_)
        refine lv_aload_n hx hb d_Previous_advance_62 rfl (lv_at hl 1 rfl) ?_
        refine mm_get (v := .ref sa) hK hx hb hown lg_Previous_44 hP 0 rfl rfl d_Previous_advance_63 ?_
        refine lv_aload_n hx hb d_Previous_advance_66 rfl (lv_at hl 1 rfl) ?_
        refine mm_get (v := .int (nI k)) hK hx hb hown lg_Previous_21 hP 0 rfl rfl d_Previous_advance_67 ?_
        refine lv_iload_n hx hb d_Previous_advance_70 rfl (lv_at hl 0 rfl) ?_
        refine mm_ifeqB hx hb d_Previous_advance_71 (tgt := 91) (by decide) (fun c71 => ?_) (fun h9 => absurd h9 (fun h => by cases h))
        refine lv_lconst (v := 0) hx hb d_Previous_advance_91 (by decide) ?_
        refine mm_last (x := 0) hK hx hb hP hD hS 1 rfl (by decide) (i := k) (by omega) d_Previous_advance_92 (fun H locs hP hD hS => ?_)
        have hP : va_P G.1 cls_all [(o, .inr (5, [.ref ln, v1, v2, v3, v4, .ref sa, .int (nI k), .ref iv])), (sa, .inl (G.2.1 1, 24, .inr (.inl (va_up g k 0))))] H := hP
        have hD : va_D A [(o, .inr (5, [.ref ln, v1, v2, v3, v4, .ref sa, .int (nI k), .ref iv])), (sa, .inl (G.2.1 1, 24, .inr (.inl (va_up g k 0))))] := hD
        refine lv_aload_n hx hb d_Previous_advance_93 rfl (lv_at hl 1 rfl) ?_
        refine lv_dup hx hb d_Previous_advance_94 rfl ?_
        refine mm_get (v := .int (nI k)) hK hx hb hown lg_Previous_21 hP 0 rfl rfl d_Previous_advance_95 ?_
        refine lv_iconst hx hb d_Previous_advance_98 ci_1 ?_
        refine lv_iadd hx hb d_Previous_advance_99 ?_
        refine mm_ti (nI_add _ _) ?_
        refine mm_put (v := .int (nI (k + 1))) hK hx hb hown lp_Previous_21 hP hD hS 0 rfl rfl rfl (Nat.le_of_ble_eq_true rfl) d_Previous_advance_100 (fun H locs hP hD hS => ?_)
        have hP : va_P G.1 cls_all [(o, .inr (5, [.ref ln, v1, v2, v3, v4, .ref sa, .int (nI (k + 1)), .ref iv])), (sa, .inl (G.2.1 1, 24, .inr (.inl (va_up g k 0))))] H := hP
        have hD : va_D A [(o, .inr (5, [.ref ln, v1, v2, v3, v4, .ref sa, .int (nI (k + 1)), .ref iv])), (sa, .inl (G.2.1 1, 24, .inr (.inl (va_up g k 0))))] := hD
        refine lv_goto hx hb d_Previous_advance_103 (tgt := 0) (by decide) ?_
        exact ih0 ((k + 1), (va_up g k 0)) _ _ _ ⟨(lv_sub hl [1, 2] rfl), hP, hD, hS, ⟨by omega, by omega⟩, (by rw [hg, show 0 = pvF lse tm lw e0 k from (by unfold pvF; rw [decide_eq_false (by omega)]; rfl)]; exact exT_s (F := pvF lse tm lw e0) (by omega))⟩ (by (try dsimp only); omega)
      · have c29 : k > 0 := nb_zlef (by omega) c29
        refine lv_aload_n hx hb d_Previous_advance_32 rfl (lv_at hl 0 rfl) ?_
        refine mm_get (v := .ref iv) hK hx hb hown lg_Previous_11 hP 0 rfl rfl d_Previous_advance_33 ?_
        refine lv_aload_n hx hb d_Previous_advance_36 rfl (lv_at hl 1 rfl) ?_
        refine lv_aload_n hx hb d_Previous_advance_37 rfl (lv_at hl 0 rfl) ?_
        refine mm_get (v := .int (nI k)) hK hx hb hown lg_Previous_21 hP 0 rfl rfl d_Previous_advance_38 ?_
        refine lv_iconst hx hb d_Previous_advance_41 ci_1 ?_
        refine lv_isub hx hb d_Previous_advance_42 ?_
        refine mm_ti (y := nI (k - 1)) (pk_sub (by omega)) ?_
        refine lv_aload_n hx hb d_Previous_advance_43 rfl (lv_at hl 0 rfl) ?_
        refine mm_get (v := .int (nI k)) hK hx hb hown lg_Previous_21 hP 0 rfl rfl d_Previous_advance_44 ?_
        refine mm_si (mm_runV hK ⟨hx, hb, hml, hown⟩ lk_Previous_34 (c_Log_between l G lo ta pa0 np tm pv (k - 1) k (by omega) (by omega) (t3 _ _ (by omega) (by omega))) ⟨rfl, rfl, by decide, by decide⟩ (mm_rc hK (mm_ro hR hRN hS) 2 rfl rfl) ((mm_ro hR hRN hS).sub (ws' := [(lo, .inr (9, [.ref ta, .int (nI np), .ref pa0])), (ta, .inl (G.2.1 0, 24, .inl (nA tm)))]) [2, 3] rfl) rfl hl.1 rfl (Nat.le_of_ble_eq_true rfl) ⟨by decide, by decide⟩ d_Previous_advance_47) (fun r47 e47 => ?_)
        subst e47
        have z1 := t2 k (by omega)
        refine mm_si (mm_runV hK ⟨hx, hb, hml, hown⟩ lk_Previous_38 (c_Interval_has l G iv lw e0 (tm k - tm (k - 1)) (by omega) (by omega) (by omega)) ⟨rfl, rfl, by decide, by decide⟩ (mm_rc hK (mm_ro hR hRN hS) 5 rfl rfl) ((mm_ro hR hRN hS).sub (ws' := [(iv, .inr (8, [.int (nI lw), .int (nI e0 - 1)]))]) [5] rfl) rfl hl.1 rfl (Nat.le_of_ble_eq_true rfl) ⟨by decide, by decide⟩ d_Previous_advance_50) (fun r50 e50 => ?_)
        subst e50
        refine mm_ifeqB hx hb d_Previous_advance_53 (tgt := 60) (by decide) (fun c53 => ?_) (fun c53 => ?_)
        · refine lv_iconst hx hb d_Previous_advance_60 ci_0 ?_
          refine mm_ti (y := bI false) (by decide) ?_
          refine lv_istore_n (lv' := [(2, .int (bI false)), (0, .ref o), (1, .ref lo)]) hx hb d_Previous_advance_61 rfl hl (by decide) rfl (fun ls hl => ?_)
          refine lv_aload_n hx hb d_Previous_advance_62 rfl (lv_at hl 1 rfl) ?_
          refine mm_get (v := .ref sa) hK hx hb hown lg_Previous_44 hP 0 rfl rfl d_Previous_advance_63 ?_
          refine lv_aload_n hx hb d_Previous_advance_66 rfl (lv_at hl 1 rfl) ?_
          refine mm_get (v := .int (nI k)) hK hx hb hown lg_Previous_21 hP 0 rfl rfl d_Previous_advance_67 ?_
          refine lv_iload_n hx hb d_Previous_advance_70 rfl (lv_at hl 0 rfl) ?_
          refine mm_ifeqB hx hb d_Previous_advance_71 (tgt := 91) (by decide) (fun c71 => ?_) (fun h9 => absurd h9 (fun h => by cases h))
          refine lv_lconst (v := 0) hx hb d_Previous_advance_91 (by decide) ?_
          refine mm_last (x := 0) hK hx hb hP hD hS 1 rfl (by decide) (i := k) (by omega) d_Previous_advance_92 (fun H locs hP hD hS => ?_)
          have hP : va_P G.1 cls_all [(o, .inr (5, [.ref ln, v1, v2, v3, v4, .ref sa, .int (nI k), .ref iv])), (sa, .inl (G.2.1 1, 24, .inr (.inl (va_up g k 0))))] H := hP
          have hD : va_D A [(o, .inr (5, [.ref ln, v1, v2, v3, v4, .ref sa, .int (nI k), .ref iv])), (sa, .inl (G.2.1 1, 24, .inr (.inl (va_up g k 0))))] := hD
          refine lv_aload_n hx hb d_Previous_advance_93 rfl (lv_at hl 1 rfl) ?_
          refine lv_dup hx hb d_Previous_advance_94 rfl ?_
          refine mm_get (v := .int (nI k)) hK hx hb hown lg_Previous_21 hP 0 rfl rfl d_Previous_advance_95 ?_
          refine lv_iconst hx hb d_Previous_advance_98 ci_1 ?_
          refine lv_iadd hx hb d_Previous_advance_99 ?_
          refine mm_ti (nI_add _ _) ?_
          refine mm_put (v := .int (nI (k + 1))) hK hx hb hown lp_Previous_21 hP hD hS 0 rfl rfl rfl (Nat.le_of_ble_eq_true rfl) d_Previous_advance_100 (fun H locs hP hD hS => ?_)
          have hP : va_P G.1 cls_all [(o, .inr (5, [.ref ln, v1, v2, v3, v4, .ref sa, .int (nI (k + 1)), .ref iv])), (sa, .inl (G.2.1 1, 24, .inr (.inl (va_up g k 0))))] H := hP
          have hD : va_D A [(o, .inr (5, [.ref ln, v1, v2, v3, v4, .ref sa, .int (nI (k + 1)), .ref iv])), (sa, .inl (G.2.1 1, 24, .inr (.inl (va_up g k 0))))] := hD
          refine lv_goto hx hb d_Previous_advance_103 (tgt := 0) (by decide) ?_
          exact ih0 ((k + 1), (va_up g k 0)) _ _ _ ⟨(lv_sub hl [1, 2] rfl), hP, hD, hS, ⟨by omega, by omega⟩, (by rw [hg, show 0 = pvF lse tm lw e0 k from (by unfold pvF; rw [c53]; rw [if_neg (by simp)])]; exact exT_s (F := pvF lse tm lw e0) (by omega))⟩ (by (try dsimp only); omega)
        · refine lv_iconst hx hb d_Previous_advance_56 ci_1 ?_
          refine lv_goto hx hb d_Previous_advance_57 (tgt := 61) (by decide) ?_
          refine mm_ti (y := bI true) (by decide) ?_
          refine lv_istore_n (lv' := [(2, .int (bI true)), (0, .ref o), (1, .ref lo)]) hx hb d_Previous_advance_61 rfl hl (by decide) rfl (fun ls hl => ?_)
          refine lv_aload_n hx hb d_Previous_advance_62 rfl (lv_at hl 1 rfl) ?_
          refine mm_get (v := .ref sa) hK hx hb hown lg_Previous_44 hP 0 rfl rfl d_Previous_advance_63 ?_
          refine lv_aload_n hx hb d_Previous_advance_66 rfl (lv_at hl 1 rfl) ?_
          refine mm_get (v := .int (nI k)) hK hx hb hown lg_Previous_21 hP 0 rfl rfl d_Previous_advance_67 ?_
          refine lv_iload_n hx hb d_Previous_advance_70 rfl (lv_at hl 0 rfl) ?_
          refine mm_ifeqB hx hb d_Previous_advance_71 (tgt := 91) (by decide) (fun h9 => absurd h9 (fun h => by cases h)) (fun c71 => ?_)
          refine lv_aload_n hx hb d_Previous_advance_74 rfl (lv_at hl 1 rfl) ?_
          refine mm_get (v := .ref ln) hK hx hb hown lg_Previous_29 hP 0 rfl rfl d_Previous_advance_75 ?_
          refine mm_get (v := .ref lsa) hK hx hb hown (lg_Previous_48 cl hcl) (mm_ro hR hRN hS) 0 rfl rfl d_Previous_advance_78 ?_
          refine lv_aload_n hx hb d_Previous_advance_81 rfl (lv_at hl 1 rfl) ?_
          refine mm_get (v := .int (nI k)) hK hx hb hown lg_Previous_21 hP 0 rfl rfl d_Previous_advance_82 ?_
          refine lv_iconst hx hb d_Previous_advance_85 ci_1 ?_
          refine lv_isub hx hb d_Previous_advance_86 ?_
          refine mm_ti (y := nI (k - 1)) (pk_sub (by omega)) ?_
          refine mm_lald hK hx hb (mm_ro hR hRN hS) 1 rfl (by decide) (i := k - 1) (by omega) d_Previous_advance_87 ?_
          refine lv_goto hx hb d_Previous_advance_88 (tgt := 92) (by decide) ?_
          refine mm_last (x := lse (k - 1)) hK hx hb hP hD hS 1 rfl (by decide) (i := k) (by omega) d_Previous_advance_92 (fun H locs hP hD hS => ?_)
          have hP : va_P G.1 cls_all [(o, .inr (5, [.ref ln, v1, v2, v3, v4, .ref sa, .int (nI k), .ref iv])), (sa, .inl (G.2.1 1, 24, .inr (.inl (va_up g k (lse (k - 1))))))] H := hP
          have hD : va_D A [(o, .inr (5, [.ref ln, v1, v2, v3, v4, .ref sa, .int (nI k), .ref iv])), (sa, .inl (G.2.1 1, 24, .inr (.inl (va_up g k (lse (k - 1))))))] := hD
          refine lv_aload_n hx hb d_Previous_advance_93 rfl (lv_at hl 1 rfl) ?_
          refine lv_dup hx hb d_Previous_advance_94 rfl ?_
          refine mm_get (v := .int (nI k)) hK hx hb hown lg_Previous_21 hP 0 rfl rfl d_Previous_advance_95 ?_
          refine lv_iconst hx hb d_Previous_advance_98 ci_1 ?_
          refine lv_iadd hx hb d_Previous_advance_99 ?_
          refine mm_ti (nI_add _ _) ?_
          refine mm_put (v := .int (nI (k + 1))) hK hx hb hown lp_Previous_21 hP hD hS 0 rfl rfl rfl (Nat.le_of_ble_eq_true rfl) d_Previous_advance_100 (fun H locs hP hD hS => ?_)
          have hP : va_P G.1 cls_all [(o, .inr (5, [.ref ln, v1, v2, v3, v4, .ref sa, .int (nI (k + 1)), .ref iv])), (sa, .inl (G.2.1 1, 24, .inr (.inl (va_up g k (lse (k - 1))))))] H := hP
          have hD : va_D A [(o, .inr (5, [.ref ln, v1, v2, v3, v4, .ref sa, .int (nI (k + 1)), .ref iv])), (sa, .inl (G.2.1 1, 24, .inr (.inl (va_up g k (lse (k - 1))))))] := hD
          refine lv_goto hx hb d_Previous_advance_103 (tgt := 0) (by decide) ?_
          exact ih0 ((k + 1), (va_up g k (lse (k - 1)))) _ _ _ ⟨(lv_sub hl [1, 2] rfl), hP, hD, hS, ⟨by omega, by omega⟩, (by rw [hg, show lse (k - 1) = pvF lse tm lw e0 k from (by unfold pvF; rw [c53, decide_eq_true (by omega)]; rfl)]; exact exT_s (F := pvF lse tm lw e0) (by omega))⟩ (by (try dsimp only); omega)
set_option maxHeartbeats 4000000 in
set_option maxRecDepth 100000 in
theorem c_Since_advance (l : Launch) (G : mm_G) {A : Nat → Prop} (o sa re : Nat) (v2 v3 v4 : Value) (se he : Nat → Int64) (xa hd : Nat) (ln cl : Nat) (hcl : cl < 8) (la0 la1 la2 la3 la4 : Value) (lsa lre : Nat) (lx : List Value) (lse : Nat → Int64) (rn cr : Nat) (hcr : cr < 8) (ra0 ra1 ra2 ra3 ra4 : Value) (rsa rre : Nat) (rx : List Value) (rse : Nat → Int64) (lo ta pa0 np : Nat) (tm pv : Nat → Nat) (iv lw e0 : Nat) (hT0 : TL np tm) (h1 : lw < 2 ^ 30) (h2 : e0 < 2 ^ 30) (hre : re ≤ min lre rre) (hl24 : lre ≤ np) (hr24 : rre ≤ np) (hI0 : SI lse rse tm e0 re hd he) (hD : va_D A [(o, .inr (6, [.ref ln, .ref rn, v2, v3, v4, .ref sa, .int (nI re), .ref iv, .ref xa, .int (nI hd)])), (sa, .inl (G.2.1 1, 24, .inr (.inl se))), (xa, .inl (G.2.1 1, 24, .inr (.inl he)))]) (hRN : ∀ q ∈ ([(ln, .inr (cl, [la0, la1, la2, la3, la4, .ref lsa, .int (nI lre)] ++ lx)), (lsa, .inl (G.2.1 1, 24, .inr (.inl lse))), (rn, .inr (cr, [ra0, ra1, ra2, ra3, ra4, .ref rsa, .int (nI rre)] ++ rx)), (rsa, .inl (G.2.1 1, 24, .inr (.inl rse))), (lo, .inr (9, [.ref ta, .int (nI np), .ref pa0])), (ta, .inl (G.2.1 0, 24, .inl (nA tm))), (pa0, .inl (G.2.1 2, 3, .inl (nA pv))), (iv, .inr (8, [.int (nI lw), .int (nI e0 - 1)]))] : va_W), ¬ A q.1) : Met l y_Since_advance [.code y_Since_advance b_Since_advance 6 none] { frames := 2, cells := 0, slots := 0, locals := 33 } (mm_Pre G [.ref o, .ref lo] (fun H => va_P G.1 cls_all [(o, .inr (6, [.ref ln, .ref rn, v2, v3, v4, .ref sa, .int (nI re), .ref iv, .ref xa, .int (nI hd)])), (sa, .inl (G.2.1 1, 24, .inr (.inl se))), (xa, .inl (G.2.1 1, 24, .inr (.inl he)))] H ∧ va_P G.1 cls_all [(ln, .inr (cl, [la0, la1, la2, la3, la4, .ref lsa, .int (nI lre)] ++ lx)), (lsa, .inl (G.2.1 1, 24, .inr (.inl lse))), (rn, .inr (cr, [ra0, ra1, ra2, ra3, ra4, .ref rsa, .int (nI rre)] ++ rx)), (rsa, .inl (G.2.1 1, 24, .inr (.inl rse))), (lo, .inr (9, [.ref ta, .int (nI np), .ref pa0])), (ta, .inl (G.2.1 0, 24, .inl (nA tm))), (pa0, .inl (G.2.1 2, 3, .inl (nA pv))), (iv, .inr (8, [.int (nI lw), .int (nI e0 - 1)]))] H)) (mm_Qv (fun H => ∃ hd9 he9, SI lse rse tm e0 (min lre rre) hd9 he9 ∧ va_P G.1 cls_all [(o, .inr (6, [.ref ln, .ref rn, v2, v3, v4, .ref sa, .int (nI (min lre rre)), .ref iv, .ref xa, .int (nI hd9)])), (sa, .inl (G.2.1 1, 24, .inr (.inl (exT se (fun k => siT lse rse tm lw e0 k (k + 1)) re (min lre rre))))), (xa, .inl (G.2.1 1, 24, .inr (.inl he9)))] H) A) 0 0 A := by
  refine mm_of (by decide) (Nat.le_of_ble_eq_true rfl) ?_
  intro p e s m below meth c ls hx hb hr hk hml hown hnm hK h0 hl
  have hl : lv_has ls 6 [(0, .ref o), (1, .ref lo)] := hl
  obtain ⟨hP, hR⟩ := h0
  have hS : va_S A s.heap s.heap [] := va_S.rf
  obtain ⟨t1, t2, t3⟩ := hT0
  refine lv_aload_n hx hb d_Since_advance_0 rfl (lv_at hl 0 rfl) ?_
  refine mm_si (mm_runU hK ⟨hx, hb, hml, hown⟩ lk_Since_33_Since (c_Formula_both l G o 6 (by decide) [.ref iv, .ref xa, .int (nI hd)] v2 v3 v4 (.ref sa) (.int (nI re)) ln cl hcl la0 la1 la2 la3 la4 (.ref lsa) lre lx rn cr hcr ra0 ra1 ra2 ra3 ra4 (.ref rsa) rre rx (by omega) (by omega)) ⟨rfl, rfl, by decide, by decide⟩ (mm_rc hK hP 0 rfl rfl) ((hP.sub (ws' := [(o, .inr (6, [.ref ln, .ref rn, v2, v3, v4, .ref sa, .int (nI re), .ref iv, .ref xa, .int (nI hd)]))]) [0] rfl).app ((mm_ro hR hRN hS).sub (ws' := [(ln, .inr (cl, [la0, la1, la2, la3, la4, .ref lsa, .int (nI lre)] ++ lx)), (rn, .inr (cr, [ra0, ra1, ra2, ra3, ra4, .ref rsa, .int (nI rre)] ++ rx))]) [0, 2] rfl)) rfl hl.1 rfl (Nat.le_of_ble_eq_true rfl) ⟨by decide, by decide⟩ d_Since_advance_1) (fun r1 e1 => ?_)
  subst e1
  refine lv_istore_n (lv' := [(2, .int (nI (min lre rre))), (0, .ref o), (1, .ref lo)]) hx hb d_Since_advance_4 rfl hl (by decide) rfl (fun ls hl => ?_)
  refine mm_loop (σ := (Nat) × (Nat) × (Nat → Int64) × (Nat → Int64)) (fun x ls H locs => match x with | (k, h0, g, hh) => lv_has ls 6 [(0, .ref o), (1, .ref lo), (2, .int (nI (min lre rre)))] ∧ va_P G.1 cls_all [(o, .inr (6, [.ref ln, .ref rn, v2, v3, v4, .ref sa, .int (nI k), .ref iv, .ref xa, .int (nI h0)])), (sa, .inl (G.2.1 1, 24, .inr (.inl g))), (xa, .inl (G.2.1 1, 24, .inr (.inl hh)))] H ∧ va_D A [(o, .inr (6, [.ref ln, .ref rn, v2, v3, v4, .ref sa, .int (nI k), .ref iv, .ref xa, .int (nI h0)])), (sa, .inl (G.2.1 1, 24, .inr (.inl g))), (xa, .inl (G.2.1 1, 24, .inr (.inl hh)))] ∧ va_S A s.heap H locs ∧ (re ≤ k ∧ k ≤ min lre rre) ∧ (g = exT se (fun k => siT lse rse tm lw e0 k (k + 1)) re k) ∧ (SI lse rse tm e0 k h0 hh)) (fun x => match x with | (k, h0, g, hh) => min lre rre - k) ?_ (re, hd, se, he) _ _ _ ⟨(lv_sub hl [1, 2, 0] rfl), hP, hD, hS, ⟨Nat.le_refl _, by omega⟩, exT_0.symm, hI0⟩
  rintro ⟨k, h0, g, hh⟩ ls H locs ⟨hl, hP, hD, hS, hk9, hg, hI⟩ ih5
  refine lv_aload_n hx hb d_Since_advance_5 rfl (lv_at hl 0 rfl) ?_
  refine mm_get (v := .int (nI k)) hK hx hb hown lg_Since_27 hP 0 rfl rfl d_Since_advance_6 ?_
  refine lv_iload_n hx hb d_Since_advance_9 rfl (lv_at hl 2 rfl) ?_
  refine lv_icmp_ge hx hb d_Since_advance_10 (tgt := 197) (by decide) (fun c10 => ?_) (fun c10 => ?_)
  · have c10 : k ≥ min lre rre := nb_get (by omega) (by omega) c10
    exact mm_vrQ hx hb hr hk hS d_Since_advance_197 (by rw [hg, show k = min lre rre by omega] at hP; rw [show k = min lre rre by omega] at hI; exact ⟨_, _, hI, hP⟩)
  · have c10 : k < min lre rre := nb_gef (by omega) (by omega) c10
    refine lv_aload_n hx hb d_Since_advance_13 rfl (lv_at hl 0 rfl) ?_
    refine mm_get (v := .ref xa) hK hx hb hown lg_Since_13 hP 0 rfl rfl d_Since_advance_14 ?_
    refine lv_aload_n hx hb d_Since_advance_17 rfl (lv_at hl 0 rfl) ?_
    refine mm_get (v := .int (nI k)) hK hx hb hown lg_Since_27 hP 0 rfl rfl d_Since_advance_18 ?_
    refine lv_aload_n hx hb d_Since_advance_21 rfl (lv_at hl 0 rfl) ?_
    refine mm_get (v := .ref rn) hK hx hb hown lg_Since_37 hP 0 rfl rfl d_Since_advance_22 ?_
    refine mm_get (v := .ref rsa) hK hx hb hown (lg_Since_41 cr hcr) (mm_ro hR hRN hS) 2 rfl rfl d_Since_advance_25 ?_
    refine lv_aload_n hx hb d_Since_advance_28 rfl (lv_at hl 0 rfl) ?_
    refine mm_get (v := .int (nI k)) hK hx hb hown lg_Since_27 hP 0 rfl rfl d_Since_advance_29 ?_
    refine mm_lald hK hx hb (mm_ro hR hRN hS) 3 rfl (by decide) (i := k) (by omega) d_Since_advance_32 ?_
    refine mm_last (x := rse k) hK hx hb hP hD hS 2 rfl (by decide) (i := k) (by omega) d_Since_advance_33 (fun H locs hP hD hS => ?_)
    have hP : va_P G.1 cls_all [(o, .inr (6, [.ref ln, .ref rn, v2, v3, v4, .ref sa, .int (nI k), .ref iv, .ref xa, .int (nI h0)])), (sa, .inl (G.2.1 1, 24, .inr (.inl g))), (xa, .inl (G.2.1 1, 24, .inr (.inl (va_up hh k (rse k)))))] H := hP
    have hD : va_D A [(o, .inr (6, [.ref ln, .ref rn, v2, v3, v4, .ref sa, .int (nI k), .ref iv, .ref xa, .int (nI h0)])), (sa, .inl (G.2.1 1, 24, .inr (.inl g))), (xa, .inl (G.2.1 1, 24, .inr (.inl (va_up hh k (rse k)))))] := hD
    have hI1 := hI.1
    refine mm_loop (σ := (Nat)) (fun (hc : Nat) ls H locs => lv_has ls 6 [(0, .ref o), (1, .ref lo), (2, .int (nI (min lre rre)))] ∧ va_P G.1 cls_all [(o, .inr (6, [.ref ln, .ref rn, v2, v3, v4, .ref sa, .int (nI k), .ref iv, .ref xa, .int (nI hc)])), (sa, .inl (G.2.1 1, 24, .inr (.inl g))), (xa, .inl (G.2.1 1, 24, .inr (.inl (va_up hh k (rse k)))))] H ∧ va_D A [(o, .inr (6, [.ref ln, .ref rn, v2, v3, v4, .ref sa, .int (nI k), .ref iv, .ref xa, .int (nI hc)])), (sa, .inl (G.2.1 1, 24, .inr (.inl g))), (xa, .inl (G.2.1 1, 24, .inr (.inl (va_up hh k (rse k)))))] ∧ va_S A s.heap H locs ∧ (hc ≤ k ∧ h0 ≤ hc ∧ ∀ j, j < hc → e0 ≠ 0 ∧ tm j + e0 ≤ tm k)) (fun (hc : Nat) => k - hc) ?_ h0 _ _ _ ⟨(lv_sub hl [0, 1, 2] rfl), hP, hD, hS, ⟨hI.1, Nat.le_refl _, fun j hj => ⟨(hI.2.2 j hj).2.1, Nat.le_trans (hI.2.2 j hj).2.2 (t3 _ _ (by omega) (by omega))⟩⟩⟩
    rintro hc ls H locs ⟨hl, hP, hD, hS, hc1⟩ ih34
    refine lv_aload_n hx hb d_Since_advance_34 rfl (lv_at hl 0 rfl) ?_
    refine mm_get (v := .ref iv) hK hx hb hown lg_Since_19 hP 0 rfl rfl d_Since_advance_35 ?_
    refine mm_si (mm_runV hK ⟨hx, hb, hml, hown⟩ lk_Since_44 (c_Interval_hi l G iv lw e0) ⟨rfl, rfl, by decide, by decide⟩ (mm_rc hK (mm_ro hR hRN hS) 7 rfl rfl) ((mm_ro hR hRN hS).sub (ws' := [(iv, .inr (8, [.int (nI lw), .int (nI e0 - 1)]))]) [7] rfl) rfl hl.1 rfl (Nat.le_of_ble_eq_true rfl) ⟨by decide, by decide⟩ d_Since_advance_38) (fun r38 e38 => ?_)
    subst e38
    refine lv_iconst hx hb d_Since_advance_41 ci_m1 ?_
    refine lv_icmp_eq hx hb d_Since_advance_42 (tgt := 80) (by decide) (fun c42 => ?_) (fun c42 => ?_)
    · rw [i32_eqT, eI_toInt (n := e0) (by omega), m1_toInt] at c42
      have hJ0 := SJ_0 hI (show h0 ≤ hc from hc1.2.1)
      refine lv_lconst (v := 0) hx hb d_Since_advance_80 (by decide) ?_
      refine lv_lstore_n (lv' := [(3, .long 0), (0, .ref o), (1, .ref lo), (2, .int (nI (min lre rre)))]) hx hb d_Since_advance_81 rfl hl (by decide) rfl (fun ls hl => ?_)
      refine lv_aload_n hx hb d_Since_advance_82 rfl (lv_at hl 1 rfl) ?_
      refine mm_get (v := .int (nI hc)) hK hx hb hown lg_Since_30 hP 0 rfl rfl d_Since_advance_83 ?_
      refine lv_istore (lv' := [(5, .int (nI hc)), (3, .long 0), (0, .ref o), (1, .ref lo), (2, .int (nI (min lre rre)))]) hx hb d_Since_advance_86 hl (by decide) rfl (fun ls hl => ?_)
      refine mm_loop (σ := (Nat) × (Int64) × (Nat → Int64)) (fun x ls H locs => match x with | (j, z9, h3) => lv_has ls 6 [(0, .ref o), (1, .ref lo), (2, .int (nI (min lre rre))), (3, .long z9), (5, .int (nI j))] ∧ va_P G.1 cls_all [(o, .inr (6, [.ref ln, .ref rn, v2, v3, v4, .ref sa, .int (nI k), .ref iv, .ref xa, .int (nI hc)])), (sa, .inl (G.2.1 1, 24, .inr (.inl g))), (xa, .inl (G.2.1 1, 24, .inr (.inl h3)))] H ∧ va_D A [(o, .inr (6, [.ref ln, .ref rn, v2, v3, v4, .ref sa, .int (nI k), .ref iv, .ref xa, .int (nI hc)])), (sa, .inl (G.2.1 1, 24, .inr (.inl g))), (xa, .inl (G.2.1 1, 24, .inr (.inl h3)))] ∧ va_S A s.heap H locs ∧ (hc ≤ j ∧ j ≤ k + 1) ∧ (z9 = siT lse rse tm lw e0 k j) ∧ (SJ lse rse k hc j h3)) (fun x => match x with | (j, z9, h3) => k + 1 - j) ?_ (hc, 0, (va_up hh k (rse k))) _ _ _ ⟨(lv_sub hl [2, 3, 4, 1, 0] rfl), hP, hD, hS, ⟨Nat.le_refl _, by omega⟩, (siT_drop hc hc1.2.2).symm, hJ0⟩
      rintro ⟨j, z9, h3⟩ ls H locs ⟨hl, hP, hD, hS, hj9, hz, hJ⟩ ih88
      refine lv_iload hx hb d_Since_advance_88 (lv_at hl 4 rfl) ?_
      refine lv_aload_n hx hb d_Since_advance_90 rfl (lv_at hl 0 rfl) ?_
      refine mm_get (v := .int (nI k)) hK hx hb hown lg_Since_27 hP 0 rfl rfl d_Since_advance_91 ?_
      refine lv_icmp_gt hx hb d_Since_advance_94 (tgt := 174) (by decide) (fun c94 => ?_) (fun c94 => ?_)
      · have c94 : j > k := nb_gtt (by omega) (by omega) c94
        refine lv_aload_n hx hb d_Since_advance_174 rfl (lv_at hl 0 rfl) ?_
        refine mm_get (v := .ref sa) hK hx hb hown lg_Since_64 hP 0 rfl rfl d_Since_advance_175 ?_
        refine lv_aload_n hx hb d_Since_advance_178 rfl (lv_at hl 0 rfl) ?_
        refine mm_get (v := .int (nI k)) hK hx hb hown lg_Since_27 hP 0 rfl rfl d_Since_advance_179 ?_
        refine lv_lload_n hx hb d_Since_advance_182 rfl (lv_at hl 3 rfl) ?_
        refine mm_last (x := z9) hK hx hb hP hD hS 1 rfl (by decide) (i := k) (by omega) d_Since_advance_183 (fun H locs hP hD hS => ?_)
        have hP : va_P G.1 cls_all [(o, .inr (6, [.ref ln, .ref rn, v2, v3, v4, .ref sa, .int (nI k), .ref iv, .ref xa, .int (nI hc)])), (sa, .inl (G.2.1 1, 24, .inr (.inl (va_up g k z9)))), (xa, .inl (G.2.1 1, 24, .inr (.inl h3)))] H := hP
        have hD : va_D A [(o, .inr (6, [.ref ln, .ref rn, v2, v3, v4, .ref sa, .int (nI k), .ref iv, .ref xa, .int (nI hc)])), (sa, .inl (G.2.1 1, 24, .inr (.inl (va_up g k z9)))), (xa, .inl (G.2.1 1, 24, .inr (.inl h3)))] := hD
        refine lv_aload_n hx hb d_Since_advance_184 rfl (lv_at hl 0 rfl) ?_
        refine lv_dup hx hb d_Since_advance_185 rfl ?_
        refine mm_get (v := .int (nI k)) hK hx hb hown lg_Since_27 hP 0 rfl rfl d_Since_advance_186 ?_
        refine lv_iconst hx hb d_Since_advance_189 ci_1 ?_
        refine lv_iadd hx hb d_Since_advance_190 ?_
        refine mm_ti (nI_add _ _) ?_
        refine mm_put (v := .int (nI (k + 1))) hK hx hb hown lp_Since_27 hP hD hS 0 rfl rfl rfl (Nat.le_of_ble_eq_true rfl) d_Since_advance_191 (fun H locs hP hD hS => ?_)
        have hP : va_P G.1 cls_all [(o, .inr (6, [.ref ln, .ref rn, v2, v3, v4, .ref sa, .int (nI (k + 1)), .ref iv, .ref xa, .int (nI hc)])), (sa, .inl (G.2.1 1, 24, .inr (.inl (va_up g k z9)))), (xa, .inl (G.2.1 1, 24, .inr (.inl h3)))] H := hP
        have hD : va_D A [(o, .inr (6, [.ref ln, .ref rn, v2, v3, v4, .ref sa, .int (nI (k + 1)), .ref iv, .ref xa, .int (nI hc)])), (sa, .inl (G.2.1 1, 24, .inr (.inl (va_up g k z9)))), (xa, .inl (G.2.1 1, 24, .inr (.inl h3)))] := hD
        refine lv_goto hx hb d_Since_advance_194 (tgt := 5) (by decide) ?_
        exact ih5 ((k + 1), hc, (va_up g k z9), h3) _ _ _ ⟨(lv_sub hl [0, 1, 2] rfl), hP, hD, hS, ⟨by omega, by omega⟩, (by rw [hg, show z9 = siT lse rse tm lw e0 k (k + 1) from by rw [hz, show j = k + 1 by omega]]; exact exT_s (F := fun k => siT lse rse tm lw e0 k (k + 1)) (by omega)), (SJ_e (by rw [show k + 1 = j by omega]; exact hJ) hc1.1 hc1.2.2)⟩ (by (try dsimp only); omega)
      · have c94 : j ≤ k := nb_gtf (by omega) (by omega) c94
        refine lv_aload_n hx hb d_Since_advance_97 rfl (lv_at hl 0 rfl) ?_
        refine mm_get (v := .ref xa) hK hx hb hown lg_Since_13 hP 0 rfl rfl d_Since_advance_98 ?_
        refine lv_iload hx hb d_Since_advance_101 (lv_at hl 4 rfl) ?_
        refine lv_dup2_11 hx hb d_Since_advance_103 rfl rfl ?_
        refine mm_lald hK hx hb hP 2 rfl (by decide) (i := j) (by omega) d_Since_advance_104 ?_
        refine lv_iload hx hb d_Since_advance_105 (lv_at hl 4 rfl) ?_
        refine lv_aload_n hx hb d_Since_advance_107 rfl (lv_at hl 0 rfl) ?_
        refine mm_get (v := .int (nI k)) hK hx hb hown lg_Since_27 hP 0 rfl rfl d_Since_advance_108 ?_
        refine lv_icmp_ge hx hb d_Since_advance_111 (tgt := 129) (by decide) (fun c111 => ?_) (fun c111 => ?_)
        · have c111 : j ≥ k := nb_get (by omega) (by omega) c111
          have hJ1 : SJ lse rse k hc (j + 1) (va_up h3 j (h3 j &&& (-1))) ∧ va_up h3 j (h3 j &&& (-1)) j = hvD lse rse j (k - j) := by (have ej : j = k := by omega); rw [ej] at hJ ⊢; exact SJ_b hJ
          refine lv_ldc2 hx hb hown (hK.w kw_676) d_Since_advance_129 ?_
          refine lv_land hx hb d_Since_advance_132 ?_
          refine mm_last (x := (h3 j) &&& (-1)) hK hx hb hP hD hS 2 rfl (by decide) (i := j) (by omega) d_Since_advance_133 (fun H locs hP hD hS => ?_)
          have hP : va_P G.1 cls_all [(o, .inr (6, [.ref ln, .ref rn, v2, v3, v4, .ref sa, .int (nI k), .ref iv, .ref xa, .int (nI hc)])), (sa, .inl (G.2.1 1, 24, .inr (.inl g))), (xa, .inl (G.2.1 1, 24, .inr (.inl (va_up h3 j ((h3 j) &&& (-1))))))] H := hP
          have hD : va_D A [(o, .inr (6, [.ref ln, .ref rn, v2, v3, v4, .ref sa, .int (nI k), .ref iv, .ref xa, .int (nI hc)])), (sa, .inl (G.2.1 1, 24, .inr (.inl g))), (xa, .inl (G.2.1 1, 24, .inr (.inl (va_up h3 j ((h3 j) &&& (-1))))))] := hD
          refine lv_lload_n hx hb d_Since_advance_134 rfl (lv_at hl 3 rfl) ?_
          refine lv_aload_n hx hb d_Since_advance_135 rfl (lv_at hl 0 rfl) ?_
          refine mm_get (v := .ref iv) hK hx hb hown lg_Since_19 hP 0 rfl rfl d_Since_advance_136 ?_
          refine lv_aload_n hx hb d_Since_advance_139 rfl (lv_at hl 1 rfl) ?_
          refine lv_iload hx hb d_Since_advance_140 (lv_at hl 4 rfl) ?_
          refine lv_aload_n hx hb d_Since_advance_142 rfl (lv_at hl 0 rfl) ?_
          refine mm_get (v := .int (nI k)) hK hx hb hown lg_Since_27 hP 0 rfl rfl d_Since_advance_143 ?_
          have z3 := t3 j k (by omega) (by omega)
          have z4 := t2 k (by omega)
          refine mm_si (mm_runV hK ⟨hx, hb, hml, hown⟩ lk_Since_49 (c_Log_between l G lo ta pa0 np tm pv j k (by omega) (by omega) (t3 _ _ (by omega) (by omega))) ⟨rfl, rfl, by decide, by decide⟩ (mm_rc hK (mm_ro hR hRN hS) 4 rfl rfl) ((mm_ro hR hRN hS).sub (ws' := [(lo, .inr (9, [.ref ta, .int (nI np), .ref pa0])), (ta, .inl (G.2.1 0, 24, .inl (nA tm)))]) [4, 5] rfl) rfl hl.1 rfl (Nat.le_of_ble_eq_true rfl) ⟨by decide, by decide⟩ d_Since_advance_146) (fun r146 e146 => ?_)
          subst e146
          refine mm_si (mm_runV hK ⟨hx, hb, hml, hown⟩ lk_Since_60 (c_Interval_has l G iv lw e0 (tm k - tm j) (by omega) (by omega) (by omega)) ⟨rfl, rfl, by decide, by decide⟩ (mm_rc hK (mm_ro hR hRN hS) 7 rfl rfl) ((mm_ro hR hRN hS).sub (ws' := [(iv, .inr (8, [.int (nI lw), .int (nI e0 - 1)]))]) [7] rfl) rfl hl.1 rfl (Nat.le_of_ble_eq_true rfl) ⟨by decide, by decide⟩ d_Since_advance_149) (fun r149 e149 => ?_)
          subst e149
          refine mm_ifeqB hx hb d_Since_advance_152 (tgt := 165) (by decide) (fun c152 => ?_) (fun c152 => ?_)
          · refine lv_lconst (v := 0) hx hb d_Since_advance_165 (by decide) ?_
            refine lv_lor hx hb d_Since_advance_166 ?_
            refine lv_lstore_n (lv' := [(3, .long (z9 ||| 0)), (0, .ref o), (1, .ref lo), (2, .int (nI (min lre rre))), (5, .int (nI j))]) hx hb d_Since_advance_167 rfl hl (by decide) rfl (fun ls hl => ?_)
            refine lv_iinc (k := 4) (v := nI (j + 1)) (lv' := [(5, .int (nI (j + 1))), (3, .long (z9 ||| 0)), (0, .ref o), (1, .ref lo), (2, .int (nI (min lre rre)))]) hx hb d_Since_advance_168 hl rfl (inc1 _) (by decide) rfl (fun ls hl => ?_)
            refine lv_goto hx hb d_Since_advance_171 (tgt := 88) (by decide) ?_
            exact ih88 ((j + 1), (z9 ||| 0), (va_up h3 j ((h3 j) &&& (-1)))) _ _ _ ⟨(lv_sub hl [2, 3, 4, 1, 0] rfl), hP, hD, hS, ⟨by omega, by omega⟩, (by rw [siT, hz, c152]; rfl), hJ1.1⟩ (by (try dsimp only); omega)
          · refine lv_aload_n hx hb d_Since_advance_155 rfl (lv_at hl 0 rfl) ?_
            refine mm_get (v := .ref xa) hK hx hb hown lg_Since_13 hP 0 rfl rfl d_Since_advance_156 ?_
            refine lv_iload hx hb d_Since_advance_159 (lv_at hl 4 rfl) ?_
            refine mm_lald hK hx hb hP 2 rfl (by decide) (i := j) (by omega) d_Since_advance_161 ?_
            refine mm_tl (y := hvD lse rse j (k - j)) hJ1.2 ?_
            refine lv_goto hx hb d_Since_advance_162 (tgt := 166) (by decide) ?_
            refine lv_lor hx hb d_Since_advance_166 ?_
            refine lv_lstore_n (lv' := [(3, .long (z9 ||| (hvD lse rse j (k - j)))), (0, .ref o), (1, .ref lo), (2, .int (nI (min lre rre))), (5, .int (nI j))]) hx hb d_Since_advance_167 rfl hl (by decide) rfl (fun ls hl => ?_)
            refine lv_iinc (k := 4) (v := nI (j + 1)) (lv' := [(5, .int (nI (j + 1))), (3, .long (z9 ||| (hvD lse rse j (k - j)))), (0, .ref o), (1, .ref lo), (2, .int (nI (min lre rre)))]) hx hb d_Since_advance_168 hl rfl (inc1 _) (by decide) rfl (fun ls hl => ?_)
            refine lv_goto hx hb d_Since_advance_171 (tgt := 88) (by decide) ?_
            exact ih88 ((j + 1), (z9 ||| (hvD lse rse j (k - j))), (va_up h3 j ((h3 j) &&& (-1)))) _ _ _ ⟨(lv_sub hl [2, 3, 4, 1, 0] rfl), hP, hD, hS, ⟨by omega, by omega⟩, (by rw [siT, hz, c152]; rfl), hJ1.1⟩ (by (try dsimp only); omega)
        · have c111 : j < k := nb_gef (by omega) (by omega) c111
          have hJ1 := SJ_a hJ (by omega) c111
          refine lv_aload_n hx hb d_Since_advance_114 rfl (lv_at hl 0 rfl) ?_
          refine mm_get (v := .ref ln) hK hx hb hown lg_Since_55 hP 0 rfl rfl d_Since_advance_115 ?_
          refine mm_get (v := .ref lsa) hK hx hb hown (lg_Since_41 cl hcl) (mm_ro hR hRN hS) 0 rfl rfl d_Since_advance_118 ?_
          refine lv_aload_n hx hb d_Since_advance_121 rfl (lv_at hl 0 rfl) ?_
          refine mm_get (v := .int (nI k)) hK hx hb hown lg_Since_27 hP 0 rfl rfl d_Since_advance_122 ?_
          refine mm_lald hK hx hb (mm_ro hR hRN hS) 1 rfl (by decide) (i := k) (by omega) d_Since_advance_125 ?_
          refine lv_goto hx hb d_Since_advance_126 (tgt := 132) (by decide) ?_
          refine lv_land hx hb d_Since_advance_132 ?_
          refine mm_last (x := (h3 j) &&& (lse k)) hK hx hb hP hD hS 2 rfl (by decide) (i := j) (by omega) d_Since_advance_133 (fun H locs hP hD hS => ?_)
          have hP : va_P G.1 cls_all [(o, .inr (6, [.ref ln, .ref rn, v2, v3, v4, .ref sa, .int (nI k), .ref iv, .ref xa, .int (nI hc)])), (sa, .inl (G.2.1 1, 24, .inr (.inl g))), (xa, .inl (G.2.1 1, 24, .inr (.inl (va_up h3 j ((h3 j) &&& (lse k))))))] H := hP
          have hD : va_D A [(o, .inr (6, [.ref ln, .ref rn, v2, v3, v4, .ref sa, .int (nI k), .ref iv, .ref xa, .int (nI hc)])), (sa, .inl (G.2.1 1, 24, .inr (.inl g))), (xa, .inl (G.2.1 1, 24, .inr (.inl (va_up h3 j ((h3 j) &&& (lse k))))))] := hD
          refine lv_lload_n hx hb d_Since_advance_134 rfl (lv_at hl 3 rfl) ?_
          refine lv_aload_n hx hb d_Since_advance_135 rfl (lv_at hl 0 rfl) ?_
          refine mm_get (v := .ref iv) hK hx hb hown lg_Since_19 hP 0 rfl rfl d_Since_advance_136 ?_
          refine lv_aload_n hx hb d_Since_advance_139 rfl (lv_at hl 1 rfl) ?_
          refine lv_iload hx hb d_Since_advance_140 (lv_at hl 4 rfl) ?_
          refine lv_aload_n hx hb d_Since_advance_142 rfl (lv_at hl 0 rfl) ?_
          refine mm_get (v := .int (nI k)) hK hx hb hown lg_Since_27 hP 0 rfl rfl d_Since_advance_143 ?_
          have z3 := t3 j k (by omega) (by omega)
          have z4 := t2 k (by omega)
          refine mm_si (mm_runV hK ⟨hx, hb, hml, hown⟩ lk_Since_49 (c_Log_between l G lo ta pa0 np tm pv j k (by omega) (by omega) (t3 _ _ (by omega) (by omega))) ⟨rfl, rfl, by decide, by decide⟩ (mm_rc hK (mm_ro hR hRN hS) 4 rfl rfl) ((mm_ro hR hRN hS).sub (ws' := [(lo, .inr (9, [.ref ta, .int (nI np), .ref pa0])), (ta, .inl (G.2.1 0, 24, .inl (nA tm)))]) [4, 5] rfl) rfl hl.1 rfl (Nat.le_of_ble_eq_true rfl) ⟨by decide, by decide⟩ d_Since_advance_146) (fun r146 e146 => ?_)
          subst e146
          refine mm_si (mm_runV hK ⟨hx, hb, hml, hown⟩ lk_Since_60 (c_Interval_has l G iv lw e0 (tm k - tm j) (by omega) (by omega) (by omega)) ⟨rfl, rfl, by decide, by decide⟩ (mm_rc hK (mm_ro hR hRN hS) 7 rfl rfl) ((mm_ro hR hRN hS).sub (ws' := [(iv, .inr (8, [.int (nI lw), .int (nI e0 - 1)]))]) [7] rfl) rfl hl.1 rfl (Nat.le_of_ble_eq_true rfl) ⟨by decide, by decide⟩ d_Since_advance_149) (fun r149 e149 => ?_)
          subst e149
          refine mm_ifeqB hx hb d_Since_advance_152 (tgt := 165) (by decide) (fun c152 => ?_) (fun c152 => ?_)
          · refine lv_lconst (v := 0) hx hb d_Since_advance_165 (by decide) ?_
            refine lv_lor hx hb d_Since_advance_166 ?_
            refine lv_lstore_n (lv' := [(3, .long (z9 ||| 0)), (0, .ref o), (1, .ref lo), (2, .int (nI (min lre rre))), (5, .int (nI j))]) hx hb d_Since_advance_167 rfl hl (by decide) rfl (fun ls hl => ?_)
            refine lv_iinc (k := 4) (v := nI (j + 1)) (lv' := [(5, .int (nI (j + 1))), (3, .long (z9 ||| 0)), (0, .ref o), (1, .ref lo), (2, .int (nI (min lre rre)))]) hx hb d_Since_advance_168 hl rfl (inc1 _) (by decide) rfl (fun ls hl => ?_)
            refine lv_goto hx hb d_Since_advance_171 (tgt := 88) (by decide) ?_
            exact ih88 ((j + 1), (z9 ||| 0), (va_up h3 j ((h3 j) &&& (lse k)))) _ _ _ ⟨(lv_sub hl [2, 3, 4, 1, 0] rfl), hP, hD, hS, ⟨by omega, by omega⟩, (by rw [siT, hz, c152]; rfl), hJ1.1⟩ (by (try dsimp only); omega)
          · refine lv_aload_n hx hb d_Since_advance_155 rfl (lv_at hl 0 rfl) ?_
            refine mm_get (v := .ref xa) hK hx hb hown lg_Since_13 hP 0 rfl rfl d_Since_advance_156 ?_
            refine lv_iload hx hb d_Since_advance_159 (lv_at hl 4 rfl) ?_
            refine mm_lald hK hx hb hP 2 rfl (by decide) (i := j) (by omega) d_Since_advance_161 ?_
            refine mm_tl (y := hvD lse rse j (k - j)) hJ1.2 ?_
            refine lv_goto hx hb d_Since_advance_162 (tgt := 166) (by decide) ?_
            refine lv_lor hx hb d_Since_advance_166 ?_
            refine lv_lstore_n (lv' := [(3, .long (z9 ||| (hvD lse rse j (k - j)))), (0, .ref o), (1, .ref lo), (2, .int (nI (min lre rre))), (5, .int (nI j))]) hx hb d_Since_advance_167 rfl hl (by decide) rfl (fun ls hl => ?_)
            refine lv_iinc (k := 4) (v := nI (j + 1)) (lv' := [(5, .int (nI (j + 1))), (3, .long (z9 ||| (hvD lse rse j (k - j)))), (0, .ref o), (1, .ref lo), (2, .int (nI (min lre rre)))]) hx hb d_Since_advance_168 hl rfl (inc1 _) (by decide) rfl (fun ls hl => ?_)
            refine lv_goto hx hb d_Since_advance_171 (tgt := 88) (by decide) ?_
            exact ih88 ((j + 1), (z9 ||| (hvD lse rse j (k - j))), (va_up h3 j ((h3 j) &&& (lse k)))) _ _ _ ⟨(lv_sub hl [2, 3, 4, 1, 0] rfl), hP, hD, hS, ⟨by omega, by omega⟩, (by rw [siT, hz, c152]; rfl), hJ1.1⟩ (by (try dsimp only); omega)
    · rw [i32_eqT, eI_toInt (n := e0) (by omega), m1_toInt] at c42
      refine lv_aload_n hx hb d_Since_advance_45 rfl (lv_at hl 1 rfl) ?_
      refine lv_aload_n hx hb d_Since_advance_46 rfl (lv_at hl 0 rfl) ?_
      refine mm_get (v := .int (nI hc)) hK hx hb hown lg_Since_30 hP 0 rfl rfl d_Since_advance_47 ?_
      refine lv_aload_n hx hb d_Since_advance_50 rfl (lv_at hl 0 rfl) ?_
      refine mm_get (v := .int (nI k)) hK hx hb hown lg_Since_27 hP 0 rfl rfl d_Since_advance_51 ?_
      have z1 := t3 hc k hc1.1 (by omega)
      have z2 := t2 k (by omega)
      refine mm_si (mm_runV hK ⟨hx, hb, hml, hown⟩ lk_Since_49 (c_Log_between l G lo ta pa0 np tm pv hc k (by omega) (by omega) (t3 _ _ (by omega) (by omega))) ⟨rfl, rfl, by decide, by decide⟩ (mm_rc hK (mm_ro hR hRN hS) 4 rfl rfl) ((mm_ro hR hRN hS).sub (ws' := [(lo, .inr (9, [.ref ta, .int (nI np), .ref pa0])), (ta, .inl (G.2.1 0, 24, .inl (nA tm)))]) [4, 5] rfl) rfl hl.1 rfl (Nat.le_of_ble_eq_true rfl) ⟨by decide, by decide⟩ d_Since_advance_54) (fun r54 e54 => ?_)
      subst e54
      refine lv_aload_n hx hb d_Since_advance_57 rfl (lv_at hl 0 rfl) ?_
      refine mm_get (v := .ref iv) hK hx hb hown lg_Since_19 hP 0 rfl rfl d_Since_advance_58 ?_
      refine mm_si (mm_runV hK ⟨hx, hb, hml, hown⟩ lk_Since_44 (c_Interval_hi l G iv lw e0) ⟨rfl, rfl, by decide, by decide⟩ (mm_rc hK (mm_ro hR hRN hS) 7 rfl rfl) ((mm_ro hR hRN hS).sub (ws' := [(iv, .inr (8, [.int (nI lw), .int (nI e0 - 1)]))]) [7] rfl) rfl hl.1 rfl (Nat.le_of_ble_eq_true rfl) ⟨by decide, by decide⟩ d_Since_advance_61) (fun r61 e61 => ?_)
      subst e61
      refine lv_icmp_le hx hb d_Since_advance_64 (tgt := 80) (by decide) (fun c64 => ?_) (fun c64 => ?_)
      · rw [Int32.le_iff_toInt_le, nI_toInt (n := tm k - tm hc) (by omega), eI_toInt (n := e0) (by omega)] at c64
        have hJ0 := SJ_0 hI (show h0 ≤ hc from hc1.2.1)
        refine lv_lconst (v := 0) hx hb d_Since_advance_80 (by decide) ?_
        refine lv_lstore_n (lv' := [(3, .long 0), (0, .ref o), (1, .ref lo), (2, .int (nI (min lre rre)))]) hx hb d_Since_advance_81 rfl hl (by decide) rfl (fun ls hl => ?_)
        refine lv_aload_n hx hb d_Since_advance_82 rfl (lv_at hl 1 rfl) ?_
        refine mm_get (v := .int (nI hc)) hK hx hb hown lg_Since_30 hP 0 rfl rfl d_Since_advance_83 ?_
        refine lv_istore (lv' := [(5, .int (nI hc)), (3, .long 0), (0, .ref o), (1, .ref lo), (2, .int (nI (min lre rre)))]) hx hb d_Since_advance_86 hl (by decide) rfl (fun ls hl => ?_)
        refine mm_loop (σ := (Nat) × (Int64) × (Nat → Int64)) (fun x ls H locs => match x with | (j, z9, h3) => lv_has ls 6 [(0, .ref o), (1, .ref lo), (2, .int (nI (min lre rre))), (3, .long z9), (5, .int (nI j))] ∧ va_P G.1 cls_all [(o, .inr (6, [.ref ln, .ref rn, v2, v3, v4, .ref sa, .int (nI k), .ref iv, .ref xa, .int (nI hc)])), (sa, .inl (G.2.1 1, 24, .inr (.inl g))), (xa, .inl (G.2.1 1, 24, .inr (.inl h3)))] H ∧ va_D A [(o, .inr (6, [.ref ln, .ref rn, v2, v3, v4, .ref sa, .int (nI k), .ref iv, .ref xa, .int (nI hc)])), (sa, .inl (G.2.1 1, 24, .inr (.inl g))), (xa, .inl (G.2.1 1, 24, .inr (.inl h3)))] ∧ va_S A s.heap H locs ∧ (hc ≤ j ∧ j ≤ k + 1) ∧ (z9 = siT lse rse tm lw e0 k j) ∧ (SJ lse rse k hc j h3)) (fun x => match x with | (j, z9, h3) => k + 1 - j) ?_ (hc, 0, (va_up hh k (rse k))) _ _ _ ⟨(lv_sub hl [2, 3, 4, 1, 0] rfl), hP, hD, hS, ⟨Nat.le_refl _, by omega⟩, (siT_drop hc hc1.2.2).symm, hJ0⟩
        rintro ⟨j, z9, h3⟩ ls H locs ⟨hl, hP, hD, hS, hj9, hz, hJ⟩ ih88
        refine lv_iload hx hb d_Since_advance_88 (lv_at hl 4 rfl) ?_
        refine lv_aload_n hx hb d_Since_advance_90 rfl (lv_at hl 0 rfl) ?_
        refine mm_get (v := .int (nI k)) hK hx hb hown lg_Since_27 hP 0 rfl rfl d_Since_advance_91 ?_
        refine lv_icmp_gt hx hb d_Since_advance_94 (tgt := 174) (by decide) (fun c94 => ?_) (fun c94 => ?_)
        · have c94 : j > k := nb_gtt (by omega) (by omega) c94
          refine lv_aload_n hx hb d_Since_advance_174 rfl (lv_at hl 0 rfl) ?_
          refine mm_get (v := .ref sa) hK hx hb hown lg_Since_64 hP 0 rfl rfl d_Since_advance_175 ?_
          refine lv_aload_n hx hb d_Since_advance_178 rfl (lv_at hl 0 rfl) ?_
          refine mm_get (v := .int (nI k)) hK hx hb hown lg_Since_27 hP 0 rfl rfl d_Since_advance_179 ?_
          refine lv_lload_n hx hb d_Since_advance_182 rfl (lv_at hl 3 rfl) ?_
          refine mm_last (x := z9) hK hx hb hP hD hS 1 rfl (by decide) (i := k) (by omega) d_Since_advance_183 (fun H locs hP hD hS => ?_)
          have hP : va_P G.1 cls_all [(o, .inr (6, [.ref ln, .ref rn, v2, v3, v4, .ref sa, .int (nI k), .ref iv, .ref xa, .int (nI hc)])), (sa, .inl (G.2.1 1, 24, .inr (.inl (va_up g k z9)))), (xa, .inl (G.2.1 1, 24, .inr (.inl h3)))] H := hP
          have hD : va_D A [(o, .inr (6, [.ref ln, .ref rn, v2, v3, v4, .ref sa, .int (nI k), .ref iv, .ref xa, .int (nI hc)])), (sa, .inl (G.2.1 1, 24, .inr (.inl (va_up g k z9)))), (xa, .inl (G.2.1 1, 24, .inr (.inl h3)))] := hD
          refine lv_aload_n hx hb d_Since_advance_184 rfl (lv_at hl 0 rfl) ?_
          refine lv_dup hx hb d_Since_advance_185 rfl ?_
          refine mm_get (v := .int (nI k)) hK hx hb hown lg_Since_27 hP 0 rfl rfl d_Since_advance_186 ?_
          refine lv_iconst hx hb d_Since_advance_189 ci_1 ?_
          refine lv_iadd hx hb d_Since_advance_190 ?_
          refine mm_ti (nI_add _ _) ?_
          refine mm_put (v := .int (nI (k + 1))) hK hx hb hown lp_Since_27 hP hD hS 0 rfl rfl rfl (Nat.le_of_ble_eq_true rfl) d_Since_advance_191 (fun H locs hP hD hS => ?_)
          have hP : va_P G.1 cls_all [(o, .inr (6, [.ref ln, .ref rn, v2, v3, v4, .ref sa, .int (nI (k + 1)), .ref iv, .ref xa, .int (nI hc)])), (sa, .inl (G.2.1 1, 24, .inr (.inl (va_up g k z9)))), (xa, .inl (G.2.1 1, 24, .inr (.inl h3)))] H := hP
          have hD : va_D A [(o, .inr (6, [.ref ln, .ref rn, v2, v3, v4, .ref sa, .int (nI (k + 1)), .ref iv, .ref xa, .int (nI hc)])), (sa, .inl (G.2.1 1, 24, .inr (.inl (va_up g k z9)))), (xa, .inl (G.2.1 1, 24, .inr (.inl h3)))] := hD
          refine lv_goto hx hb d_Since_advance_194 (tgt := 5) (by decide) ?_
          exact ih5 ((k + 1), hc, (va_up g k z9), h3) _ _ _ ⟨(lv_sub hl [0, 1, 2] rfl), hP, hD, hS, ⟨by omega, by omega⟩, (by rw [hg, show z9 = siT lse rse tm lw e0 k (k + 1) from by rw [hz, show j = k + 1 by omega]]; exact exT_s (F := fun k => siT lse rse tm lw e0 k (k + 1)) (by omega)), (SJ_e (by rw [show k + 1 = j by omega]; exact hJ) hc1.1 hc1.2.2)⟩ (by (try dsimp only); omega)
        · have c94 : j ≤ k := nb_gtf (by omega) (by omega) c94
          refine lv_aload_n hx hb d_Since_advance_97 rfl (lv_at hl 0 rfl) ?_
          refine mm_get (v := .ref xa) hK hx hb hown lg_Since_13 hP 0 rfl rfl d_Since_advance_98 ?_
          refine lv_iload hx hb d_Since_advance_101 (lv_at hl 4 rfl) ?_
          refine lv_dup2_11 hx hb d_Since_advance_103 rfl rfl ?_
          refine mm_lald hK hx hb hP 2 rfl (by decide) (i := j) (by omega) d_Since_advance_104 ?_
          refine lv_iload hx hb d_Since_advance_105 (lv_at hl 4 rfl) ?_
          refine lv_aload_n hx hb d_Since_advance_107 rfl (lv_at hl 0 rfl) ?_
          refine mm_get (v := .int (nI k)) hK hx hb hown lg_Since_27 hP 0 rfl rfl d_Since_advance_108 ?_
          refine lv_icmp_ge hx hb d_Since_advance_111 (tgt := 129) (by decide) (fun c111 => ?_) (fun c111 => ?_)
          · have c111 : j ≥ k := nb_get (by omega) (by omega) c111
            have hJ1 : SJ lse rse k hc (j + 1) (va_up h3 j (h3 j &&& (-1))) ∧ va_up h3 j (h3 j &&& (-1)) j = hvD lse rse j (k - j) := by (have ej : j = k := by omega); rw [ej] at hJ ⊢; exact SJ_b hJ
            refine lv_ldc2 hx hb hown (hK.w kw_676) d_Since_advance_129 ?_
            refine lv_land hx hb d_Since_advance_132 ?_
            refine mm_last (x := (h3 j) &&& (-1)) hK hx hb hP hD hS 2 rfl (by decide) (i := j) (by omega) d_Since_advance_133 (fun H locs hP hD hS => ?_)
            have hP : va_P G.1 cls_all [(o, .inr (6, [.ref ln, .ref rn, v2, v3, v4, .ref sa, .int (nI k), .ref iv, .ref xa, .int (nI hc)])), (sa, .inl (G.2.1 1, 24, .inr (.inl g))), (xa, .inl (G.2.1 1, 24, .inr (.inl (va_up h3 j ((h3 j) &&& (-1))))))] H := hP
            have hD : va_D A [(o, .inr (6, [.ref ln, .ref rn, v2, v3, v4, .ref sa, .int (nI k), .ref iv, .ref xa, .int (nI hc)])), (sa, .inl (G.2.1 1, 24, .inr (.inl g))), (xa, .inl (G.2.1 1, 24, .inr (.inl (va_up h3 j ((h3 j) &&& (-1))))))] := hD
            refine lv_lload_n hx hb d_Since_advance_134 rfl (lv_at hl 3 rfl) ?_
            refine lv_aload_n hx hb d_Since_advance_135 rfl (lv_at hl 0 rfl) ?_
            refine mm_get (v := .ref iv) hK hx hb hown lg_Since_19 hP 0 rfl rfl d_Since_advance_136 ?_
            refine lv_aload_n hx hb d_Since_advance_139 rfl (lv_at hl 1 rfl) ?_
            refine lv_iload hx hb d_Since_advance_140 (lv_at hl 4 rfl) ?_
            refine lv_aload_n hx hb d_Since_advance_142 rfl (lv_at hl 0 rfl) ?_
            refine mm_get (v := .int (nI k)) hK hx hb hown lg_Since_27 hP 0 rfl rfl d_Since_advance_143 ?_
            have z3 := t3 j k (by omega) (by omega)
            have z4 := t2 k (by omega)
            refine mm_si (mm_runV hK ⟨hx, hb, hml, hown⟩ lk_Since_49 (c_Log_between l G lo ta pa0 np tm pv j k (by omega) (by omega) (t3 _ _ (by omega) (by omega))) ⟨rfl, rfl, by decide, by decide⟩ (mm_rc hK (mm_ro hR hRN hS) 4 rfl rfl) ((mm_ro hR hRN hS).sub (ws' := [(lo, .inr (9, [.ref ta, .int (nI np), .ref pa0])), (ta, .inl (G.2.1 0, 24, .inl (nA tm)))]) [4, 5] rfl) rfl hl.1 rfl (Nat.le_of_ble_eq_true rfl) ⟨by decide, by decide⟩ d_Since_advance_146) (fun r146 e146 => ?_)
            subst e146
            refine mm_si (mm_runV hK ⟨hx, hb, hml, hown⟩ lk_Since_60 (c_Interval_has l G iv lw e0 (tm k - tm j) (by omega) (by omega) (by omega)) ⟨rfl, rfl, by decide, by decide⟩ (mm_rc hK (mm_ro hR hRN hS) 7 rfl rfl) ((mm_ro hR hRN hS).sub (ws' := [(iv, .inr (8, [.int (nI lw), .int (nI e0 - 1)]))]) [7] rfl) rfl hl.1 rfl (Nat.le_of_ble_eq_true rfl) ⟨by decide, by decide⟩ d_Since_advance_149) (fun r149 e149 => ?_)
            subst e149
            refine mm_ifeqB hx hb d_Since_advance_152 (tgt := 165) (by decide) (fun c152 => ?_) (fun c152 => ?_)
            · refine lv_lconst (v := 0) hx hb d_Since_advance_165 (by decide) ?_
              refine lv_lor hx hb d_Since_advance_166 ?_
              refine lv_lstore_n (lv' := [(3, .long (z9 ||| 0)), (0, .ref o), (1, .ref lo), (2, .int (nI (min lre rre))), (5, .int (nI j))]) hx hb d_Since_advance_167 rfl hl (by decide) rfl (fun ls hl => ?_)
              refine lv_iinc (k := 4) (v := nI (j + 1)) (lv' := [(5, .int (nI (j + 1))), (3, .long (z9 ||| 0)), (0, .ref o), (1, .ref lo), (2, .int (nI (min lre rre)))]) hx hb d_Since_advance_168 hl rfl (inc1 _) (by decide) rfl (fun ls hl => ?_)
              refine lv_goto hx hb d_Since_advance_171 (tgt := 88) (by decide) ?_
              exact ih88 ((j + 1), (z9 ||| 0), (va_up h3 j ((h3 j) &&& (-1)))) _ _ _ ⟨(lv_sub hl [2, 3, 4, 1, 0] rfl), hP, hD, hS, ⟨by omega, by omega⟩, (by rw [siT, hz, c152]; rfl), hJ1.1⟩ (by (try dsimp only); omega)
            · refine lv_aload_n hx hb d_Since_advance_155 rfl (lv_at hl 0 rfl) ?_
              refine mm_get (v := .ref xa) hK hx hb hown lg_Since_13 hP 0 rfl rfl d_Since_advance_156 ?_
              refine lv_iload hx hb d_Since_advance_159 (lv_at hl 4 rfl) ?_
              refine mm_lald hK hx hb hP 2 rfl (by decide) (i := j) (by omega) d_Since_advance_161 ?_
              refine mm_tl (y := hvD lse rse j (k - j)) hJ1.2 ?_
              refine lv_goto hx hb d_Since_advance_162 (tgt := 166) (by decide) ?_
              refine lv_lor hx hb d_Since_advance_166 ?_
              refine lv_lstore_n (lv' := [(3, .long (z9 ||| (hvD lse rse j (k - j)))), (0, .ref o), (1, .ref lo), (2, .int (nI (min lre rre))), (5, .int (nI j))]) hx hb d_Since_advance_167 rfl hl (by decide) rfl (fun ls hl => ?_)
              refine lv_iinc (k := 4) (v := nI (j + 1)) (lv' := [(5, .int (nI (j + 1))), (3, .long (z9 ||| (hvD lse rse j (k - j)))), (0, .ref o), (1, .ref lo), (2, .int (nI (min lre rre)))]) hx hb d_Since_advance_168 hl rfl (inc1 _) (by decide) rfl (fun ls hl => ?_)
              refine lv_goto hx hb d_Since_advance_171 (tgt := 88) (by decide) ?_
              exact ih88 ((j + 1), (z9 ||| (hvD lse rse j (k - j))), (va_up h3 j ((h3 j) &&& (-1)))) _ _ _ ⟨(lv_sub hl [2, 3, 4, 1, 0] rfl), hP, hD, hS, ⟨by omega, by omega⟩, (by rw [siT, hz, c152]; rfl), hJ1.1⟩ (by (try dsimp only); omega)
          · have c111 : j < k := nb_gef (by omega) (by omega) c111
            have hJ1 := SJ_a hJ (by omega) c111
            refine lv_aload_n hx hb d_Since_advance_114 rfl (lv_at hl 0 rfl) ?_
            refine mm_get (v := .ref ln) hK hx hb hown lg_Since_55 hP 0 rfl rfl d_Since_advance_115 ?_
            refine mm_get (v := .ref lsa) hK hx hb hown (lg_Since_41 cl hcl) (mm_ro hR hRN hS) 0 rfl rfl d_Since_advance_118 ?_
            refine lv_aload_n hx hb d_Since_advance_121 rfl (lv_at hl 0 rfl) ?_
            refine mm_get (v := .int (nI k)) hK hx hb hown lg_Since_27 hP 0 rfl rfl d_Since_advance_122 ?_
            refine mm_lald hK hx hb (mm_ro hR hRN hS) 1 rfl (by decide) (i := k) (by omega) d_Since_advance_125 ?_
            refine lv_goto hx hb d_Since_advance_126 (tgt := 132) (by decide) ?_
            refine lv_land hx hb d_Since_advance_132 ?_
            refine mm_last (x := (h3 j) &&& (lse k)) hK hx hb hP hD hS 2 rfl (by decide) (i := j) (by omega) d_Since_advance_133 (fun H locs hP hD hS => ?_)
            have hP : va_P G.1 cls_all [(o, .inr (6, [.ref ln, .ref rn, v2, v3, v4, .ref sa, .int (nI k), .ref iv, .ref xa, .int (nI hc)])), (sa, .inl (G.2.1 1, 24, .inr (.inl g))), (xa, .inl (G.2.1 1, 24, .inr (.inl (va_up h3 j ((h3 j) &&& (lse k))))))] H := hP
            have hD : va_D A [(o, .inr (6, [.ref ln, .ref rn, v2, v3, v4, .ref sa, .int (nI k), .ref iv, .ref xa, .int (nI hc)])), (sa, .inl (G.2.1 1, 24, .inr (.inl g))), (xa, .inl (G.2.1 1, 24, .inr (.inl (va_up h3 j ((h3 j) &&& (lse k))))))] := hD
            refine lv_lload_n hx hb d_Since_advance_134 rfl (lv_at hl 3 rfl) ?_
            refine lv_aload_n hx hb d_Since_advance_135 rfl (lv_at hl 0 rfl) ?_
            refine mm_get (v := .ref iv) hK hx hb hown lg_Since_19 hP 0 rfl rfl d_Since_advance_136 ?_
            refine lv_aload_n hx hb d_Since_advance_139 rfl (lv_at hl 1 rfl) ?_
            refine lv_iload hx hb d_Since_advance_140 (lv_at hl 4 rfl) ?_
            refine lv_aload_n hx hb d_Since_advance_142 rfl (lv_at hl 0 rfl) ?_
            refine mm_get (v := .int (nI k)) hK hx hb hown lg_Since_27 hP 0 rfl rfl d_Since_advance_143 ?_
            have z3 := t3 j k (by omega) (by omega)
            have z4 := t2 k (by omega)
            refine mm_si (mm_runV hK ⟨hx, hb, hml, hown⟩ lk_Since_49 (c_Log_between l G lo ta pa0 np tm pv j k (by omega) (by omega) (t3 _ _ (by omega) (by omega))) ⟨rfl, rfl, by decide, by decide⟩ (mm_rc hK (mm_ro hR hRN hS) 4 rfl rfl) ((mm_ro hR hRN hS).sub (ws' := [(lo, .inr (9, [.ref ta, .int (nI np), .ref pa0])), (ta, .inl (G.2.1 0, 24, .inl (nA tm)))]) [4, 5] rfl) rfl hl.1 rfl (Nat.le_of_ble_eq_true rfl) ⟨by decide, by decide⟩ d_Since_advance_146) (fun r146 e146 => ?_)
            subst e146
            refine mm_si (mm_runV hK ⟨hx, hb, hml, hown⟩ lk_Since_60 (c_Interval_has l G iv lw e0 (tm k - tm j) (by omega) (by omega) (by omega)) ⟨rfl, rfl, by decide, by decide⟩ (mm_rc hK (mm_ro hR hRN hS) 7 rfl rfl) ((mm_ro hR hRN hS).sub (ws' := [(iv, .inr (8, [.int (nI lw), .int (nI e0 - 1)]))]) [7] rfl) rfl hl.1 rfl (Nat.le_of_ble_eq_true rfl) ⟨by decide, by decide⟩ d_Since_advance_149) (fun r149 e149 => ?_)
            subst e149
            refine mm_ifeqB hx hb d_Since_advance_152 (tgt := 165) (by decide) (fun c152 => ?_) (fun c152 => ?_)
            · refine lv_lconst (v := 0) hx hb d_Since_advance_165 (by decide) ?_
              refine lv_lor hx hb d_Since_advance_166 ?_
              refine lv_lstore_n (lv' := [(3, .long (z9 ||| 0)), (0, .ref o), (1, .ref lo), (2, .int (nI (min lre rre))), (5, .int (nI j))]) hx hb d_Since_advance_167 rfl hl (by decide) rfl (fun ls hl => ?_)
              refine lv_iinc (k := 4) (v := nI (j + 1)) (lv' := [(5, .int (nI (j + 1))), (3, .long (z9 ||| 0)), (0, .ref o), (1, .ref lo), (2, .int (nI (min lre rre)))]) hx hb d_Since_advance_168 hl rfl (inc1 _) (by decide) rfl (fun ls hl => ?_)
              refine lv_goto hx hb d_Since_advance_171 (tgt := 88) (by decide) ?_
              exact ih88 ((j + 1), (z9 ||| 0), (va_up h3 j ((h3 j) &&& (lse k)))) _ _ _ ⟨(lv_sub hl [2, 3, 4, 1, 0] rfl), hP, hD, hS, ⟨by omega, by omega⟩, (by rw [siT, hz, c152]; rfl), hJ1.1⟩ (by (try dsimp only); omega)
            · refine lv_aload_n hx hb d_Since_advance_155 rfl (lv_at hl 0 rfl) ?_
              refine mm_get (v := .ref xa) hK hx hb hown lg_Since_13 hP 0 rfl rfl d_Since_advance_156 ?_
              refine lv_iload hx hb d_Since_advance_159 (lv_at hl 4 rfl) ?_
              refine mm_lald hK hx hb hP 2 rfl (by decide) (i := j) (by omega) d_Since_advance_161 ?_
              refine mm_tl (y := hvD lse rse j (k - j)) hJ1.2 ?_
              refine lv_goto hx hb d_Since_advance_162 (tgt := 166) (by decide) ?_
              refine lv_lor hx hb d_Since_advance_166 ?_
              refine lv_lstore_n (lv' := [(3, .long (z9 ||| (hvD lse rse j (k - j)))), (0, .ref o), (1, .ref lo), (2, .int (nI (min lre rre))), (5, .int (nI j))]) hx hb d_Since_advance_167 rfl hl (by decide) rfl (fun ls hl => ?_)
              refine lv_iinc (k := 4) (v := nI (j + 1)) (lv' := [(5, .int (nI (j + 1))), (3, .long (z9 ||| (hvD lse rse j (k - j)))), (0, .ref o), (1, .ref lo), (2, .int (nI (min lre rre)))]) hx hb d_Since_advance_168 hl rfl (inc1 _) (by decide) rfl (fun ls hl => ?_)
              refine lv_goto hx hb d_Since_advance_171 (tgt := 88) (by decide) ?_
              exact ih88 ((j + 1), (z9 ||| (hvD lse rse j (k - j))), (va_up h3 j ((h3 j) &&& (lse k)))) _ _ _ ⟨(lv_sub hl [2, 3, 4, 1, 0] rfl), hP, hD, hS, ⟨by omega, by omega⟩, (by rw [siT, hz, c152]; rfl), hJ1.1⟩ (by (try dsimp only); omega)
      · rw [Int32.le_iff_toInt_le, nI_toInt (n := tm k - tm hc) (by omega), eI_toInt (n := e0) (by omega)] at c64
        have hne : hc ≠ k := by (intro h9; rw [h9] at c64 z1; omega)
        refine lv_aload_n hx hb d_Since_advance_67 rfl (lv_at hl 0 rfl) ?_
        refine lv_dup hx hb d_Since_advance_68 rfl ?_
        refine mm_get (v := .int (nI hc)) hK hx hb hown lg_Since_30 hP 0 rfl rfl d_Since_advance_69 ?_
        refine lv_iconst hx hb d_Since_advance_72 ci_1 ?_
        refine lv_iadd hx hb d_Since_advance_73 ?_
        refine mm_ti (nI_add _ _) ?_
        refine mm_put (v := .int (nI (hc + 1))) hK hx hb hown lp_Since_30 hP hD hS 0 rfl rfl rfl (Nat.le_of_ble_eq_true rfl) d_Since_advance_74 (fun H locs hP hD hS => ?_)
        have hP : va_P G.1 cls_all [(o, .inr (6, [.ref ln, .ref rn, v2, v3, v4, .ref sa, .int (nI k), .ref iv, .ref xa, .int (nI (hc + 1))])), (sa, .inl (G.2.1 1, 24, .inr (.inl g))), (xa, .inl (G.2.1 1, 24, .inr (.inl (va_up hh k (rse k)))))] H := hP
        have hD : va_D A [(o, .inr (6, [.ref ln, .ref rn, v2, v3, v4, .ref sa, .int (nI k), .ref iv, .ref xa, .int (nI (hc + 1))])), (sa, .inl (G.2.1 1, 24, .inr (.inl g))), (xa, .inl (G.2.1 1, 24, .inr (.inl (va_up hh k (rse k)))))] := hD
        refine lv_goto hx hb d_Since_advance_77 (tgt := 34) (by decide) ?_
        exact ih34 (hc + 1) _ _ _ ⟨(lv_sub hl [0, 1, 2] rfl), hP, hD, hS, ⟨by omega, by omega, fun j hj => by by_cases h9 : j = hc; (rw [h9]; exact ⟨by omega, by omega⟩); exact hc1.2.2 j (by omega)⟩⟩ (by (try dsimp only); omega)
