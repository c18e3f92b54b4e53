set_option maxHeartbeats 4000000 in
set_option maxRecDepth 100000 in
theorem c_Mod_look (l : Launch) (G : mm_G) (o : Nat) (ad : Nat → Nat) (nf : Nat) (wt : Bool) (np : Nat) (kK kW kF kS kL kE tm pr ga : Nat → Nat) (ho : Nat → Int64) (pa : Nat → Bool) (fr rg re : Nat → Nat) {A : Nat → Prop} (hD : va_D A (TW G o ad nf wt np kK kW kF kS kL kE tm pr ga ho pa fr rg re)) (f i : Nat) (hF : WF nf kK kW kF kS kL kE) (hf : f < nf) (hi : i < np) (hT : TL np tm) (hB : PB pr) : Met l y_Mod_look [.code y_Mod_look b_Mod_look 6 none] { frames := 3, cells := 0, slots := 0, locals := 74 } (mm_Pre G [.ref o, .int (nI f), .int (nI i)] (fun H => va_P G.1 cls_all (TW G o ad nf wt np kK kW kF kS kL kE tm pr ga ho pa fr rg re) H)) (mm_Qv (fun H => va_P G.1 cls_all (TW G o ad nf wt np kK kW kF kS kL kE tm pr ga (va_up ho (24 * f + i) (setR (fun n => satB kK kW kF kS kL kE tm pr np ho f i n) 64)) pa fr rg re) H) A) 0 0 A := by
  refine mm_of (by decide) (Nat.le_of_ble_eq_true rfl) ?_
  intro p e s m below meth c ls hx hb hr hk hml hown hnm hK hP hl
  have hl : lv_has ls 6 [(0, .ref o), (1, .int (nI f)), (2, .int (nI i))] := hl
  have hS : va_S A s.heap s.heap [] := va_S.rf
  have hn := hF.1
  have hq := hT.1
  refine lv_lconst (v := 0) hx hb d_Mod_look_0 (by decide) ?_
  refine lv_lstore_n (lv' := [(3, .long 0), (0, .ref o), (1, .int (nI f)), (2, .int (nI i))]) hx hb d_Mod_look_1 rfl hl (by decide) rfl (fun ls hl => ?_)
  refine lv_iconst hx hb d_Mod_look_2 ci_0 ?_
  refine lv_istore (lv' := [(5, .int (nI 0)), (3, .long 0), (0, .ref o), (1, .int (nI f)), (2, .int (nI i))]) hx hb d_Mod_look_3 hl (by decide) rfl (fun ls hl => ?_)
  refine mm_loop (σ := (Nat) × (Int64)) (fun x ls H locs => match x with | (n, z) => lv_has ls 6 [(0, .ref o), (1, .int (nI f)), (2, .int (nI i)), (3, .long z), (5, .int (nI n))] ∧ va_P G.1 cls_all (TW G o ad nf wt np kK kW kF kS kL kE tm pr ga ho pa fr rg re) H ∧ va_D A (TW G o ad nf wt np kK kW kF kS kL kE tm pr ga ho pa fr rg re) ∧ va_S A s.heap H locs ∧ (n ≤ 64) ∧ (z = setR (fun n => satB kK kW kF kS kL kE tm pr np ho f i n) n)) (fun x => match x with | (n, z) => 64 - n) ?_ (0, 0) _ _ _ ⟨(lv_sub hl [2, 3, 4, 1, 0] rfl), hP, hD, hS, (by omega), rfl⟩
  rintro ⟨n, z⟩ ls H locs ⟨hl, hP, hD, hS, hn9, hz⟩ ih5
  refine lv_iload hx hb d_Mod_look_5 (lv_at hl 4 rfl) ?_
  refine lv_bipush (v := nI 64) hx hb d_Mod_look_7 (by decide) ?_
  refine lv_icmp_ge hx hb d_Mod_look_9 (tgt := 40) (by decide) (fun c9 => ?_) (fun c9 => ?_)
  · have c9 : n ≥ 64 := nb_get (by omega) (by omega) c9
    refine lv_aload_n hx hb d_Mod_look_40 rfl (lv_at hl 0 rfl) ?_
    refine mm_get (v := .ref (ad 9)) hK hx hb hown lg_Mod_37 hP 0 rfl rfl d_Mod_look_41 ?_
    refine lv_bipush (v := nI 24) hx hb d_Mod_look_44 (by decide) ?_
    refine lv_iload_n hx hb d_Mod_look_46 rfl (lv_at hl 1 rfl) ?_
    refine lv_imul hx hb d_Mod_look_47 ?_
    refine mm_ti (pk_mul _ _) ?_
    refine lv_iload_n hx hb d_Mod_look_48 rfl (lv_at hl 2 rfl) ?_
    refine lv_iadd hx hb d_Mod_look_49 ?_
    refine mm_ti (nI_add _ _) ?_
    refine lv_lload_n hx hb d_Mod_look_50 rfl (lv_at hl 3 rfl) ?_
    refine mm_last (x := z) hK hx hb hP hD hS 10 rfl (by decide) (i := (24 * f) + i) (by omega) d_Mod_look_51 (fun H locs hP hD hS => ?_)
    have hP : va_P G.1 cls_all (TW G o ad nf wt np kK kW kF kS kL kE tm pr ga (va_up ho ((24 * f) + i) z) pa fr rg re) H := hP
    have hD : va_D A (TW G o ad nf wt np kK kW kF kS kL kE tm pr ga (va_up ho ((24 * f) + i) z) pa fr rg re) := hD
    exact mm_vrQ hx hb hr hk hS d_Mod_look_52 (by rw [hz, show n = 64 by omega] at hP; exact hP)
  · have c9 : n < 64 := nb_gef (by omega) (by omega) c9
    refine lv_aload_n hx hb d_Mod_look_12 rfl (lv_at hl 0 rfl) ?_
    refine lv_iload_n hx hb d_Mod_look_13 rfl (lv_at hl 1 rfl) ?_
    refine lv_iload_n hx hb d_Mod_look_14 rfl (lv_at hl 2 rfl) ?_
    refine lv_iload hx hb d_Mod_look_15 (lv_at hl 4 rfl) ?_
    refine mm_si (mm_runV hK ⟨hx, hb, hml, hown⟩ lk_Mod_127 (c_Mod_satisfies l G o ad nf wt np kK kW kF kS kL kE tm pr ga ho pa fr rg re f i n hF hf hi (by omega) hT hB) ⟨rfl, rfl, by decide, by decide⟩ (mm_rc hK hP 0 rfl rfl) hP rfl hl.1 rfl (Nat.le_of_ble_eq_true rfl) ⟨by decide, by decide⟩ d_Mod_look_17) (fun r17 e17 => ?_)
    subst e17
    refine mm_ifeqB hx hb d_Mod_look_20 (tgt := 32) (by decide) (fun c20 => ?_) (fun c20 => ?_)
    · refine lv_lload_n hx hb d_Mod_look_32 rfl (lv_at hl 3 rfl) ?_
      refine lv_lstore_n (lv' := [(3, .long z), (0, .ref o), (1, .int (nI f)), (2, .int (nI i)), (5, .int (nI n))]) hx hb d_Mod_look_33 rfl hl (by decide) rfl (fun ls hl => ?_)
      refine lv_iinc (k := 4) (v := nI (n + 1)) (lv' := [(5, .int (nI (n + 1))), (3, .long z), (0, .ref o), (1, .int (nI f)), (2, .int (nI i))]) hx hb d_Mod_look_34 hl rfl (inc1 _) (by decide) rfl (fun ls hl => ?_)
      refine lv_goto hx hb d_Mod_look_37 (tgt := 5) (by decide) ?_
      exact ih5 ((n + 1), z) _ _ _ ⟨(lv_sub hl [2, 3, 4, 1, 0] rfl), hP, hD, hS, (by omega), (by rw [setR, if_neg (by rw [c20]; decide)]; exact hz)⟩ (by (try dsimp only); omega)
    · refine lv_lload_n hx hb d_Mod_look_23 rfl (lv_at hl 3 rfl) ?_
      refine lv_lconst (v := 1) hx hb d_Mod_look_24 (by decide) ?_
      refine lv_iload hx hb d_Mod_look_25 (lv_at hl 4 rfl) ?_
      refine lv_lshl (v := bitL n) hx hb d_Mod_look_27 rfl ?_
      refine lv_lor hx hb d_Mod_look_28 ?_
      refine lv_goto hx hb d_Mod_look_29 (tgt := 33) (by decide) ?_
      refine lv_lstore_n (lv' := [(3, .long (z ||| (bitL n))), (0, .ref o), (1, .int (nI f)), (2, .int (nI i)), (5, .int (nI n))]) hx hb d_Mod_look_33 rfl hl (by decide) rfl (fun ls hl => ?_)
      refine lv_iinc (k := 4) (v := nI (n + 1)) (lv' := [(5, .int (nI (n + 1))), (3, .long (z ||| (bitL n))), (0, .ref o), (1, .int (nI f)), (2, .int (nI i))]) hx hb d_Mod_look_34 hl rfl (inc1 _) (by decide) rfl (fun ls hl => ?_)
      refine lv_goto hx hb d_Mod_look_37 (tgt := 5) (by decide) ?_
      exact ih5 ((n + 1), (z ||| (bitL n))) _ _ _ ⟨(lv_sub hl [2, 3, 4, 1, 0] rfl), hP, hD, hS, (by omega), (by rw [setR, if_pos c20, hz])⟩ (by (try dsimp only); omega)
set_option maxHeartbeats 4000000 in
set_option maxRecDepth 100000 in
theorem c_Mod_place (l : Launch) (G : mm_G) (o : Nat) (ad : Nat → Nat) (nf : Nat) (wt : Bool) (np : Nat) (kK kW kF kS kL kE tm pr ga : Nat → Nat) (ho : Nat → Int64) (pa : Nat → Bool) (fr rg re : Nat → Nat) {A : Nat → Prop} (hD : va_D A (TW G o ad nf wt np kK kW kF kS kL kE tm pr ga ho pa fr rg re)) (t : Int32) (hF : WF nf kK kW kF kS kL kE) (hT : TL np tm) (hB : PB pr) (hg : ∀ j, j < 3 → ga j < 65536) : Met l y_Mod_place [.code y_Mod_place b_Mod_place 4 (some .int)] { frames := 4, cells := 0, slots := 0, locals := 99 } (mm_Pre G [.ref o, .int t] (fun H => va_P G.1 cls_all (TW G o ad nf wt np kK kW kF kS kL kE tm pr ga ho pa fr rg re) H)) (mm_Qi (fun r H => (plP wt np tm t → r = nI np ∧ ∃ ho9 pr9 ga9, (∀ j, j < 3 → ga9 j = 0) ∧ (∀ q, q < 3 → pr9 (24 * q + np) = ga q) ∧ (∀ q i, q < 3 → i < 24 → i ≠ np → pr9 (24 * q + i) = pr (24 * q + i)) ∧ PB pr9 ∧ FP nf kK kW kF kS kL kE (va_up tm np (cN t)) pr9 (np + 1) ho9 ∧ va_P G.1 cls_all (TW G o ad nf wt (np + 1) kK kW kF kS kL kE (va_up tm np (cN t)) pr9 ga9 ho9 pa fr rg re) H) ∧ (¬ plP wt np tm t → r = -1 ∧ va_P G.1 cls_all (TW G o ad nf wt np kK kW kF kS kL kE tm pr ga ho pa fr rg re) H)) A) 0 0 A := by
  refine mm_of (by decide) (Nat.le_of_ble_eq_true rfl) ?_
  intro p e s m below meth c ls hx hb hr hk hml hown hnm hK hP hl
  have hl : lv_has ls 4 [(0, .ref o), (1, .int t)] := hl
  have hS : va_S A s.heap s.heap [] := va_S.rf
  have hn := hF.1
  have hq := hT.1
  refine lv_aload_n hx hb d_Mod_place_0 rfl (lv_at hl 0 rfl) ?_
  refine mm_get (v := .int (bI wt)) hK hx hb hown lg_Mod_58 hP 0 rfl rfl d_Mod_place_1 ?_
  refine mm_ifeqB hx hb d_Mod_place_4 (tgt := 48) (by decide) (fun c4 => ?_) (fun c4 => ?_)
  · refine lv_iconst hx hb d_Mod_place_48 ci_m1 ?_
    exact mm_irQ hx hb hr hk hS d_Mod_place_49 ⟨fun h => absurd h (fun h => by obtain ⟨h1, ⟨h2, h3⟩, h4, h5⟩ := h; first | omega | exact absurd (c4.symm.trans h1) (by decide) | (have h6 := h5 (by omega); omega)), fun _ => ⟨rfl, hP⟩⟩
  · refine lv_iload_n hx hb d_Mod_place_7 rfl (lv_at hl 1 rfl) ?_
    refine lv_if_lt hx hb d_Mod_place_8 (tgt := 48) (by decide) (fun c8 => ?_) (fun c8 => ?_)
    · rw [Int32.lt_iff_toInt_lt, Int32.toInt_zero] at c8
      refine lv_iconst hx hb d_Mod_place_48 ci_m1 ?_
      exact mm_irQ hx hb hr hk hS d_Mod_place_49 ⟨fun h => absurd h (fun h => by obtain ⟨h1, ⟨h2, h3⟩, h4, h5⟩ := h; first | omega | exact absurd (c4.symm.trans h1) (by decide) | (have h6 := h5 (by omega); omega)), fun _ => ⟨rfl, hP⟩⟩
    · rw [Int32.lt_iff_toInt_lt, Int32.toInt_zero] at c8
      refine lv_iload_n hx hb d_Mod_place_11 rfl (lv_at hl 1 rfl) ?_
      refine lv_ldc (v := 1000000) hx hb hown (hK.w kw_826) d_Mod_place_12 ?_
      refine mm_ti (y := nI 1000000) (by decide) ?_
      refine lv_icmp_gt hx hb d_Mod_place_14 (tgt := 48) (by decide) (fun c14 => ?_) (fun c14 => ?_)
      · rw [Int32.lt_iff_toInt_lt, nI_toInt (n := 1000000) (by omega)] at c14
        refine lv_iconst hx hb d_Mod_place_48 ci_m1 ?_
        exact mm_irQ hx hb hr hk hS d_Mod_place_49 ⟨fun h => absurd h (fun h => by obtain ⟨h1, ⟨h2, h3⟩, h4, h5⟩ := h; first | omega | exact absurd (c4.symm.trans h1) (by decide) | (have h6 := h5 (by omega); omega)), fun _ => ⟨rfl, hP⟩⟩
      · rw [Int32.lt_iff_toInt_lt, nI_toInt (n := 1000000) (by omega)] at c14
        refine lv_aload_n hx hb d_Mod_place_17 rfl (lv_at hl 0 rfl) ?_
        refine mm_get (v := .int (nI np)) hK hx hb hown lg_Mod_96 hP 0 rfl rfl d_Mod_place_18 ?_
        refine lv_bipush (v := nI 24) hx hb d_Mod_place_21 (by decide) ?_
        refine lv_icmp_ge hx hb d_Mod_place_23 (tgt := 48) (by decide) (fun c23 => ?_) (fun c23 => ?_)
        · have c23 : np ≥ 24 := nb_get (by omega) (by omega) c23
          refine lv_iconst hx hb d_Mod_place_48 ci_m1 ?_
          exact mm_irQ hx hb hr hk hS d_Mod_place_49 ⟨fun h => absurd h (fun h => by obtain ⟨h1, ⟨h2, h3⟩, h4, h5⟩ := h; first | omega | exact absurd (c4.symm.trans h1) (by decide) | (have h6 := h5 (by omega); omega)), fun _ => ⟨rfl, hP⟩⟩
        · have c23 : np < 24 := nb_gef (by omega) (by omega) c23
          refine lv_aload_n hx hb d_Mod_place_26 rfl (lv_at hl 0 rfl) ?_
          refine mm_get (v := .int (nI np)) hK hx hb hown lg_Mod_96 hP 0 rfl rfl d_Mod_place_27 ?_
          refine lv_if_le hx hb d_Mod_place_30 (tgt := 50) (by decide) (fun c30 => ?_) (fun c30 => ?_)
          · have c30 : np ≤ 0 := nb_zlet (by omega) c30
            obtain ⟨x1, rfl, y1⟩ := tm_of' (t := t) (by omega) (by omega)
            have e1 : (nI x1).toInt = (x1 : Int) := nI_toInt (by omega)
            refine lv_aload_n hx hb d_Mod_place_50 rfl (lv_at hl 0 rfl) ?_
            refine mm_get (v := .ref (ad 6)) hK hx hb hown lg_Mod_28 hP 0 rfl rfl d_Mod_place_51 ?_
            refine lv_aload_n hx hb d_Mod_place_54 rfl (lv_at hl 0 rfl) ?_
            refine mm_get (v := .int (nI np)) hK hx hb hown lg_Mod_96 hP 0 rfl rfl d_Mod_place_55 ?_
            refine lv_iload_n hx hb d_Mod_place_58 rfl (lv_at hl 1 rfl) ?_
            refine mm_iastN (x := x1) hK hx hb hP hD hS 7 rfl (by decide) (i := np) (by omega) d_Mod_place_59 (fun H locs hP hD hS => ?_)
            have hP : va_P G.1 cls_all (TW G o ad nf wt np kK kW kF kS kL kE (va_up tm np x1) pr ga ho pa fr rg re) H := hP
            have hD : va_D A (TW G o ad nf wt np kK kW kF kS kL kE (va_up tm np x1) pr ga ho pa fr rg re) := hD
            refine lv_iconst hx hb d_Mod_place_60 ci_0 ?_
            refine lv_istore_n (lv' := [(2, .int (nI 0)), (0, .ref o), (1, .int (nI x1))]) hx hb d_Mod_place_61 rfl hl (by decide) rfl (fun ls hl => ?_)
            refine mm_loop (σ := (Nat) × (Nat → Nat) × (Nat → Nat)) (fun x ls H locs => match x with | (k, pr9, ga9) => lv_has ls 4 [(0, .ref o), (1, .int (nI x1)), (2, .int (nI k))] ∧ va_P G.1 cls_all (TW G o ad nf wt np kK kW kF kS kL kE (va_up tm np x1) pr9 ga9 ho pa fr rg re) H ∧ va_D A (TW G o ad nf wt np kK kW kF kS kL kE (va_up tm np x1) pr9 ga9 ho pa fr rg re) ∧ va_S A s.heap H locs ∧ (k ≤ 3) ∧ (PM np pr ga k pr9 ga9)) (fun x => match x with | (k, pr9, ga9) => 3 - k) ?_ (0, pr, ga) _ _ _ ⟨(lv_sub hl [1, 2, 0] rfl), hP, hD, hS, (by omega), ⟨fun j hj => absurd hj (Nat.not_lt_zero _), fun j _ => rfl, fun j hj => absurd hj (Nat.not_lt_zero _), fun _ _ _ _ _ => rfl, hB⟩⟩
            rintro ⟨k, pr9, ga9⟩ ls H locs ⟨hl, hP, hD, hS, hk9, hM⟩ ih62
            refine lv_iload_n hx hb d_Mod_place_62 rfl (lv_at hl 2 rfl) ?_
            refine lv_iconst hx hb d_Mod_place_63 ci_3 ?_
            refine lv_icmp_ge hx hb d_Mod_place_64 (tgt := 100) (by decide) (fun c64 => ?_) (fun c64 => ?_)
            · have c64 : k ≥ 3 := nb_get (by omega) (by omega) c64
              refine lv_aload_n hx hb d_Mod_place_100 rfl (lv_at hl 0 rfl) ?_
              refine lv_dup hx hb d_Mod_place_101 rfl ?_
              refine mm_get (v := .int (nI np)) hK hx hb hown lg_Mod_96 hP 0 rfl rfl d_Mod_place_102 ?_
              refine lv_iconst hx hb d_Mod_place_105 ci_1 ?_
              refine lv_iadd hx hb d_Mod_place_106 ?_
              refine mm_ti (nI_add _ _) ?_
              refine mm_put (v := .int (nI (np + 1))) hK hx hb hown lp_Mod_96 hP hD hS 0 rfl rfl rfl (Nat.le_of_ble_eq_true rfl) d_Mod_place_107 (fun H locs hP hD hS => ?_)
              have hP : va_P G.1 cls_all (TW G o ad nf wt (np + 1) kK kW kF kS kL kE (va_up tm np x1) pr9 ga9 ho pa fr rg re) H := hP
              have hD : va_D A (TW G o ad nf wt (np + 1) kK kW kF kS kL kE (va_up tm np x1) pr9 ga9 ho pa fr rg re) := hD
              have hB9 := hM.2.2.2.2
              have hT9 : TL (np + 1) (va_up tm np x1) := TL_up hT (by omega) y1 (fun h9 => by first | omega | exact absurd h9 (by omega))
              obtain rfl : k = 3 := by omega
              obtain ⟨m1, m2, m3, m4, -⟩ := hM
              refine lv_iconst hx hb d_Mod_place_110 ci_0 ?_
              refine lv_istore_n (lv' := [(2, .int (nI 0)), (0, .ref o), (1, .int (nI x1))]) hx hb d_Mod_place_111 rfl hl (by decide) rfl (fun ls hl => ?_)
              refine mm_loop (σ := (Nat) × (Nat → Int64)) (fun x ls H locs => match x with | (f, ho9) => lv_has ls 4 [(0, .ref o), (1, .int (nI x1)), (2, .int (nI f))] ∧ va_P G.1 cls_all (TW G o ad nf wt (np + 1) kK kW kF kS kL kE (va_up tm np x1) pr9 ga9 ho9 pa fr rg re) H ∧ va_D A (TW G o ad nf wt (np + 1) kK kW kF kS kL kE (va_up tm np x1) pr9 ga9 ho9 pa fr rg re) ∧ va_S A s.heap H locs ∧ (f ≤ nf) ∧ (FQ kK kW kF kS kL kE (va_up tm np x1) pr9 (np + 1) ho9 f 0)) (fun x => match x with | (f, ho9) => nf - f) ?_ (0, ho) _ _ _ ⟨(lv_sub hl [1, 2, 0] rfl), hP, hD, hS, (Nat.zero_le _), ⟨fun g hg => absurd hg (Nat.not_lt_zero _), fun g hg => absurd hg (Nat.not_lt_zero _)⟩⟩
              rintro ⟨f, ho9⟩ ls H locs ⟨hl, hP, hD, hS, hf9, hQ⟩ ih112
              refine lv_iload_n hx hb d_Mod_place_112 rfl (lv_at hl 2 rfl) ?_
              refine lv_aload_n hx hb d_Mod_place_113 rfl (lv_at hl 0 rfl) ?_
              refine mm_get (v := .int (nI nf)) hK hx hb hown lg_Mod_54 hP 0 rfl rfl d_Mod_place_114 ?_
              refine lv_icmp_ge hx hb d_Mod_place_117 (tgt := 148) (by decide) (fun c117 => ?_) (fun c117 => ?_)
              · have c117 : f ≥ nf := nb_get (by omega) (by omega) c117
                refine lv_aload_n hx hb d_Mod_place_148 rfl (lv_at hl 0 rfl) ?_
                refine mm_get (v := .int (nI (np + 1))) hK hx hb hown lg_Mod_96 hP 0 rfl rfl d_Mod_place_149 ?_
                refine lv_iconst hx hb d_Mod_place_152 ci_1 ?_
                refine lv_isub hx hb d_Mod_place_153 ?_
                refine mm_ti (y := nI np) (nI_pred np) ?_
                exact mm_irQ hx hb hr hk hS d_Mod_place_154 ⟨fun _ => by rw [cN_nI (by omega)]; exact ⟨rfl, ho9, pr9, ga9, fun j hj => m1 j (by omega), fun q hq => m3 q (by omega), m4, hB9, fun g hg i hi => hQ.1 g (by omega) i hi, hP⟩, fun h => absurd ⟨c4, ⟨by omega, by omega⟩, by omega, fun h9 => by first | omega | exact absurd h9 (by omega)⟩ h⟩
              · have c117 : f < nf := nb_gef (by omega) (by omega) c117
                refine lv_iconst hx hb d_Mod_place_120 ci_0 ?_
                refine lv_istore_n (lv' := [(3, .int (nI 0)), (0, .ref o), (1, .int (nI x1)), (2, .int (nI f))]) hx hb d_Mod_place_121 rfl hl (by decide) rfl (fun ls hl => ?_)
                refine mm_loop (σ := (Nat) × (Nat → Int64)) (fun x ls H locs => match x with | (i, ho9) => lv_has ls 4 [(0, .ref o), (1, .int (nI x1)), (2, .int (nI f)), (3, .int (nI i))] ∧ va_P G.1 cls_all (TW G o ad nf wt (np + 1) kK kW kF kS kL kE (va_up tm np x1) pr9 ga9 ho9 pa fr rg re) H ∧ va_D A (TW G o ad nf wt (np + 1) kK kW kF kS kL kE (va_up tm np x1) pr9 ga9 ho9 pa fr rg re) ∧ va_S A s.heap H locs ∧ (i ≤ np + 1) ∧ (FQ kK kW kF kS kL kE (va_up tm np x1) pr9 (np + 1) ho9 f i)) (fun x => match x with | (i, ho9) => np + 1 - i) ?_ (0, ho9) _ _ _ ⟨(lv_sub hl [1, 2, 3, 0] rfl), hP, hD, hS, (by omega), hQ⟩
                rintro ⟨i, ho9⟩ ls H locs ⟨hl, hP, hD, hS, hi9, hQ⟩ ih122
                refine lv_iload_n hx hb d_Mod_place_122 rfl (lv_at hl 3 rfl) ?_
                refine lv_aload_n hx hb d_Mod_place_123 rfl (lv_at hl 0 rfl) ?_
                refine mm_get (v := .int (nI (np + 1))) hK hx hb hown lg_Mod_96 hP 0 rfl rfl d_Mod_place_124 ?_
                refine lv_icmp_ge hx hb d_Mod_place_127 (tgt := 142) (by decide) (fun c127 => ?_) (fun c127 => ?_)
                · have c127 : i ≥ np + 1 := nb_get (by omega) (by omega) c127
                  have ei : i = np + 1 := by omega
                  refine lv_iinc (k := 2) (v := nI (f + 1)) (lv' := [(2, .int (nI (f + 1))), (0, .ref o), (1, .int (nI x1)), (3, .int (nI i))]) hx hb d_Mod_place_142 hl rfl (inc1 _) (by decide) rfl (fun ls hl => ?_)
                  refine lv_goto hx hb d_Mod_place_145 (tgt := 112) (by decide) ?_
                  exact ih112 ((f + 1), ho9) _ _ _ ⟨(lv_sub hl [1, 2, 0] rfl), hP, hD, hS, (by omega), (by rw [ei] at hQ; exact FQ_next hQ)⟩ (by (try dsimp only); omega)
                · have c127 : i < np + 1 := nb_gef (by omega) (by omega) c127
                  refine lv_aload_n hx hb d_Mod_place_130 rfl (lv_at hl 0 rfl) ?_
                  refine lv_iload_n hx hb d_Mod_place_131 rfl (lv_at hl 2 rfl) ?_
                  refine lv_iload_n hx hb d_Mod_place_132 rfl (lv_at hl 3 rfl) ?_
                  refine mm_qv (mm_runV hK ⟨hx, hb, hml, hown⟩ lk_Mod_102 (c_Mod_look l G o ad nf wt (np + 1) kK kW kF kS kL kE (va_up tm np x1) pr9 ga9 ho9 pa fr rg re hD f i hF (by omega) (by omega) hT9 hB9) ⟨rfl, rfl, by decide, by decide⟩ (mm_rc hK hP 0 rfl rfl) hP rfl hl.1 rfl (Nat.le_of_ble_eq_true rfl) ⟨by decide, by decide⟩ d_Mod_place_133) hS (fun q h => h) (fun H locs e133 hz1 hk1 hS => ?_)
                  have hP := e133
                  have hD : va_D A (TW G o ad nf wt (np + 1) kK kW kF kS kL kE (va_up tm np x1) pr9 ga9 (va_up ho9 (24 * f + i) (setR (fun n => satB kK kW kF kS kL kE (va_up tm np x1) pr9 (np + 1) ho9 f i n) 64)) pa fr rg re) := mD hD rfl
                  refine lv_iinc (k := 3) (v := nI (i + 1)) (lv' := [(3, .int (nI (i + 1))), (0, .ref o), (1, .int (nI x1)), (2, .int (nI f))]) hx hb d_Mod_place_136 hl rfl (inc1 _) (by decide) rfl (fun ls hl => ?_)
                  refine lv_goto hx hb d_Mod_place_139 (tgt := 122) (by decide) ?_
                  exact ih122 ((i + 1), (va_up ho9 (24 * f + i) (setR (fun n => satB kK kW kF kS kL kE (va_up tm np x1) pr9 (np + 1) ho9 f i n) 64))) _ _ _ ⟨(lv_sub hl [1, 2, 3, 0] rfl), hP, hD, hS, (by omega), (FQ_step hF (by omega) hT9.1 (by omega) hQ)⟩ (by (try dsimp only); omega)
            · have c64 : k < 3 := nb_gef (by omega) (by omega) c64
              refine lv_aload_n hx hb d_Mod_place_67 rfl (lv_at hl 0 rfl) ?_
              refine mm_get (v := .ref (ad 7)) hK hx hb hown lg_Mod_31 hP 0 rfl rfl d_Mod_place_68 ?_
              refine lv_bipush (v := nI 24) hx hb d_Mod_place_71 (by decide) ?_
              refine lv_iload_n hx hb d_Mod_place_73 rfl (lv_at hl 2 rfl) ?_
              refine lv_imul hx hb d_Mod_place_74 ?_
              refine mm_ti (pk_mul _ _) ?_
              refine lv_aload_n hx hb d_Mod_place_75 rfl (lv_at hl 0 rfl) ?_
              refine mm_get (v := .int (nI np)) hK hx hb hown lg_Mod_96 hP 0 rfl rfl d_Mod_place_76 ?_
              refine lv_iadd hx hb d_Mod_place_79 ?_
              refine mm_ti (nI_add _ _) ?_
              refine lv_aload_n hx hb d_Mod_place_80 rfl (lv_at hl 0 rfl) ?_
              refine mm_get (v := .ref (ad 8)) hK hx hb hown lg_Mod_34 hP 0 rfl rfl d_Mod_place_81 ?_
              refine lv_iload_n hx hb d_Mod_place_84 rfl (lv_at hl 2 rfl) ?_
              refine mm_iald hK hx hb hP 9 rfl (by decide) (i := k) (by omega) d_Mod_place_85 ?_
              refine mm_iastN (x := ga9 k) hK hx hb hP hD hS 8 rfl (by decide) (i := (24 * k) + np) (by omega) d_Mod_place_86 (fun H locs hP hD hS => ?_)
              have hP : va_P G.1 cls_all (TW G o ad nf wt np kK kW kF kS kL kE (va_up tm np x1) (va_up pr9 ((24 * k) + np) (ga9 k)) ga9 ho pa fr rg re) H := hP
              have hD : va_D A (TW G o ad nf wt np kK kW kF kS kL kE (va_up tm np x1) (va_up pr9 ((24 * k) + np) (ga9 k)) ga9 ho pa fr rg re) := hD
              refine lv_aload_n hx hb d_Mod_place_87 rfl (lv_at hl 0 rfl) ?_
              refine mm_get (v := .ref (ad 8)) hK hx hb hown lg_Mod_34 hP 0 rfl rfl d_Mod_place_88 ?_
              refine lv_iload_n hx hb d_Mod_place_91 rfl (lv_at hl 2 rfl) ?_
              refine lv_iconst hx hb d_Mod_place_92 ci_0 ?_
              refine mm_iastN (x := 0) hK hx hb hP hD hS 9 rfl (by decide) (i := k) (by omega) d_Mod_place_93 (fun H locs hP hD hS => ?_)
              have hP : va_P G.1 cls_all (TW G o ad nf wt np kK kW kF kS kL kE (va_up tm np x1) (va_up pr9 ((24 * k) + np) (ga9 k)) (va_up ga9 k 0) ho pa fr rg re) H := hP
              have hD : va_D A (TW G o ad nf wt np kK kW kF kS kL kE (va_up tm np x1) (va_up pr9 ((24 * k) + np) (ga9 k)) (va_up ga9 k 0) ho pa fr rg re) := hD
              refine lv_iinc (k := 2) (v := nI (k + 1)) (lv' := [(2, .int (nI (k + 1))), (0, .ref o), (1, .int (nI x1))]) hx hb d_Mod_place_94 hl rfl (inc1 _) (by decide) rfl (fun ls hl => ?_)
              refine lv_goto hx hb d_Mod_place_97 (tgt := 62) (by decide) ?_
              exact ih62 ((k + 1), (va_up pr9 ((24 * k) + np) (ga9 k)), (va_up ga9 k 0)) _ _ _ ⟨(lv_sub hl [1, 2, 0] rfl), hP, hD, hS, (by omega), (PM_step hM (by omega) (by omega) hg)⟩ (by (try dsimp only); omega)
          · have c30 : np > 0 := nb_zlef (by omega) c30
            refine lv_iload_n hx hb d_Mod_place_33 rfl (lv_at hl 1 rfl) ?_
            refine lv_aload_n hx hb d_Mod_place_34 rfl (lv_at hl 0 rfl) ?_
            refine mm_get (v := .ref (ad 6)) hK hx hb hown lg_Mod_28 hP 0 rfl rfl d_Mod_place_35 ?_
            refine lv_aload_n hx hb d_Mod_place_38 rfl (lv_at hl 0 rfl) ?_
            refine mm_get (v := .int (nI np)) hK hx hb hown lg_Mod_96 hP 0 rfl rfl d_Mod_place_39 ?_
            refine lv_iconst hx hb d_Mod_place_42 ci_1 ?_
            refine lv_isub hx hb d_Mod_place_43 ?_
            refine mm_ti (y := nI (np - 1)) (pk_sub (by omega)) ?_
            refine mm_iald hK hx hb hP 7 rfl (by decide) (i := np - 1) (by omega) d_Mod_place_44 ?_
            have z1 := hT.2.1 (np - 1) (by omega)
            refine lv_icmp_ge hx hb d_Mod_place_45 (tgt := 50) (by decide) (fun c45 => ?_) (fun c45 => ?_)
            · rw [Int32.le_iff_toInt_le, nI_toInt (n := tm (np - 1)) (by omega)] at c45
              obtain ⟨x1, rfl, y1⟩ := tm_of' (t := t) (by omega) (by omega)
              have e1 : (nI x1).toInt = (x1 : Int) := nI_toInt (by omega)
              refine lv_aload_n hx hb d_Mod_place_50 rfl (lv_at hl 0 rfl) ?_
              refine mm_get (v := .ref (ad 6)) hK hx hb hown lg_Mod_28 hP 0 rfl rfl d_Mod_place_51 ?_
              refine lv_aload_n hx hb d_Mod_place_54 rfl (lv_at hl 0 rfl) ?_
              refine mm_get (v := .int (nI np)) hK hx hb hown lg_Mod_96 hP 0 rfl rfl d_Mod_place_55 ?_
              refine lv_iload_n hx hb d_Mod_place_58 rfl (lv_at hl 1 rfl) ?_
              refine mm_iastN (x := x1) hK hx hb hP hD hS 7 rfl (by decide) (i := np) (by omega) d_Mod_place_59 (fun H locs hP hD hS => ?_)
              have hP : va_P G.1 cls_all (TW G o ad nf wt np kK kW kF kS kL kE (va_up tm np x1) pr ga ho pa fr rg re) H := hP
              have hD : va_D A (TW G o ad nf wt np kK kW kF kS kL kE (va_up tm np x1) pr ga ho pa fr rg re) := hD
              refine lv_iconst hx hb d_Mod_place_60 ci_0 ?_
              refine lv_istore_n (lv' := [(2, .int (nI 0)), (0, .ref o), (1, .int (nI x1))]) hx hb d_Mod_place_61 rfl hl (by decide) rfl (fun ls hl => ?_)
              refine mm_loop (σ := (Nat) × (Nat → Nat) × (Nat → Nat)) (fun x ls H locs => match x with | (k, pr9, ga9) => lv_has ls 4 [(0, .ref o), (1, .int (nI x1)), (2, .int (nI k))] ∧ va_P G.1 cls_all (TW G o ad nf wt np kK kW kF kS kL kE (va_up tm np x1) pr9 ga9 ho pa fr rg re) H ∧ va_D A (TW G o ad nf wt np kK kW kF kS kL kE (va_up tm np x1) pr9 ga9 ho pa fr rg re) ∧ va_S A s.heap H locs ∧ (k ≤ 3) ∧ (PM np pr ga k pr9 ga9)) (fun x => match x with | (k, pr9, ga9) => 3 - k) ?_ (0, pr, ga) _ _ _ ⟨(lv_sub hl [1, 2, 0] rfl), hP, hD, hS, (by omega), ⟨fun j hj => absurd hj (Nat.not_lt_zero _), fun j _ => rfl, fun j hj => absurd hj (Nat.not_lt_zero _), fun _ _ _ _ _ => rfl, hB⟩⟩
              rintro ⟨k, pr9, ga9⟩ ls H locs ⟨hl, hP, hD, hS, hk9, hM⟩ ih62
              refine lv_iload_n hx hb d_Mod_place_62 rfl (lv_at hl 2 rfl) ?_
              refine lv_iconst hx hb d_Mod_place_63 ci_3 ?_
              refine lv_icmp_ge hx hb d_Mod_place_64 (tgt := 100) (by decide) (fun c64 => ?_) (fun c64 => ?_)
              · have c64 : k ≥ 3 := nb_get (by omega) (by omega) c64
                refine lv_aload_n hx hb d_Mod_place_100 rfl (lv_at hl 0 rfl) ?_
                refine lv_dup hx hb d_Mod_place_101 rfl ?_
                refine mm_get (v := .int (nI np)) hK hx hb hown lg_Mod_96 hP 0 rfl rfl d_Mod_place_102 ?_
                refine lv_iconst hx hb d_Mod_place_105 ci_1 ?_
                refine lv_iadd hx hb d_Mod_place_106 ?_
                refine mm_ti (nI_add _ _) ?_
                refine mm_put (v := .int (nI (np + 1))) hK hx hb hown lp_Mod_96 hP hD hS 0 rfl rfl rfl (Nat.le_of_ble_eq_true rfl) d_Mod_place_107 (fun H locs hP hD hS => ?_)
                have hP : va_P G.1 cls_all (TW G o ad nf wt (np + 1) kK kW kF kS kL kE (va_up tm np x1) pr9 ga9 ho pa fr rg re) H := hP
                have hD : va_D A (TW G o ad nf wt (np + 1) kK kW kF kS kL kE (va_up tm np x1) pr9 ga9 ho pa fr rg re) := hD
                have hB9 := hM.2.2.2.2
                have hT9 : TL (np + 1) (va_up tm np x1) := TL_up hT (by omega) y1 (fun h9 => by first | omega | exact absurd h9 (by omega))
                obtain rfl : k = 3 := by omega
                obtain ⟨m1, m2, m3, m4, -⟩ := hM
                refine lv_iconst hx hb d_Mod_place_110 ci_0 ?_
                refine lv_istore_n (lv' := [(2, .int (nI 0)), (0, .ref o), (1, .int (nI x1))]) hx hb d_Mod_place_111 rfl hl (by decide) rfl (fun ls hl => ?_)
                refine mm_loop (σ := (Nat) × (Nat → Int64)) (fun x ls H locs => match x with | (f, ho9) => lv_has ls 4 [(0, .ref o), (1, .int (nI x1)), (2, .int (nI f))] ∧ va_P G.1 cls_all (TW G o ad nf wt (np + 1) kK kW kF kS kL kE (va_up tm np x1) pr9 ga9 ho9 pa fr rg re) H ∧ va_D A (TW G o ad nf wt (np + 1) kK kW kF kS kL kE (va_up tm np x1) pr9 ga9 ho9 pa fr rg re) ∧ va_S A s.heap H locs ∧ (f ≤ nf) ∧ (FQ kK kW kF kS kL kE (va_up tm np x1) pr9 (np + 1) ho9 f 0)) (fun x => match x with | (f, ho9) => nf - f) ?_ (0, ho) _ _ _ ⟨(lv_sub hl [1, 2, 0] rfl), hP, hD, hS, (Nat.zero_le _), ⟨fun g hg => absurd hg (Nat.not_lt_zero _), fun g hg => absurd hg (Nat.not_lt_zero _)⟩⟩
                rintro ⟨f, ho9⟩ ls H locs ⟨hl, hP, hD, hS, hf9, hQ⟩ ih112
                refine lv_iload_n hx hb d_Mod_place_112 rfl (lv_at hl 2 rfl) ?_
                refine lv_aload_n hx hb d_Mod_place_113 rfl (lv_at hl 0 rfl) ?_
                refine mm_get (v := .int (nI nf)) hK hx hb hown lg_Mod_54 hP 0 rfl rfl d_Mod_place_114 ?_
                refine lv_icmp_ge hx hb d_Mod_place_117 (tgt := 148) (by decide) (fun c117 => ?_) (fun c117 => ?_)
                · have c117 : f ≥ nf := nb_get (by omega) (by omega) c117
                  refine lv_aload_n hx hb d_Mod_place_148 rfl (lv_at hl 0 rfl) ?_
                  refine mm_get (v := .int (nI (np + 1))) hK hx hb hown lg_Mod_96 hP 0 rfl rfl d_Mod_place_149 ?_
                  refine lv_iconst hx hb d_Mod_place_152 ci_1 ?_
                  refine lv_isub hx hb d_Mod_place_153 ?_
                  refine mm_ti (y := nI np) (nI_pred np) ?_
                  exact mm_irQ hx hb hr hk hS d_Mod_place_154 ⟨fun _ => by rw [cN_nI (by omega)]; exact ⟨rfl, ho9, pr9, ga9, fun j hj => m1 j (by omega), fun q hq => m3 q (by omega), m4, hB9, fun g hg i hi => hQ.1 g (by omega) i hi, hP⟩, fun h => absurd ⟨c4, ⟨by omega, by omega⟩, by omega, fun h9 => by first | omega | exact absurd h9 (by omega)⟩ h⟩
                · have c117 : f < nf := nb_gef (by omega) (by omega) c117
                  refine lv_iconst hx hb d_Mod_place_120 ci_0 ?_
                  refine lv_istore_n (lv' := [(3, .int (nI 0)), (0, .ref o), (1, .int (nI x1)), (2, .int (nI f))]) hx hb d_Mod_place_121 rfl hl (by decide) rfl (fun ls hl => ?_)
                  refine mm_loop (σ := (Nat) × (Nat → Int64)) (fun x ls H locs => match x with | (i, ho9) => lv_has ls 4 [(0, .ref o), (1, .int (nI x1)), (2, .int (nI f)), (3, .int (nI i))] ∧ va_P G.1 cls_all (TW G o ad nf wt (np + 1) kK kW kF kS kL kE (va_up tm np x1) pr9 ga9 ho9 pa fr rg re) H ∧ va_D A (TW G o ad nf wt (np + 1) kK kW kF kS kL kE (va_up tm np x1) pr9 ga9 ho9 pa fr rg re) ∧ va_S A s.heap H locs ∧ (i ≤ np + 1) ∧ (FQ kK kW kF kS kL kE (va_up tm np x1) pr9 (np + 1) ho9 f i)) (fun x => match x with | (i, ho9) => np + 1 - i) ?_ (0, ho9) _ _ _ ⟨(lv_sub hl [1, 2, 3, 0] rfl), hP, hD, hS, (by omega), hQ⟩
                  rintro ⟨i, ho9⟩ ls H locs ⟨hl, hP, hD, hS, hi9, hQ⟩ ih122
                  refine lv_iload_n hx hb d_Mod_place_122 rfl (lv_at hl 3 rfl) ?_
                  refine lv_aload_n hx hb d_Mod_place_123 rfl (lv_at hl 0 rfl) ?_
                  refine mm_get (v := .int (nI (np + 1))) hK hx hb hown lg_Mod_96 hP 0 rfl rfl d_Mod_place_124 ?_
                  refine lv_icmp_ge hx hb d_Mod_place_127 (tgt := 142) (by decide) (fun c127 => ?_) (fun c127 => ?_)
                  · have c127 : i ≥ np + 1 := nb_get (by omega) (by omega) c127
                    have ei : i = np + 1 := by omega
                    refine lv_iinc (k := 2) (v := nI (f + 1)) (lv' := [(2, .int (nI (f + 1))), (0, .ref o), (1, .int (nI x1)), (3, .int (nI i))]) hx hb d_Mod_place_142 hl rfl (inc1 _) (by decide) rfl (fun ls hl => ?_)
                    refine lv_goto hx hb d_Mod_place_145 (tgt := 112) (by decide) ?_
                    exact ih112 ((f + 1), ho9) _ _ _ ⟨(lv_sub hl [1, 2, 0] rfl), hP, hD, hS, (by omega), (by rw [ei] at hQ; exact FQ_next hQ)⟩ (by (try dsimp only); omega)
                  · have c127 : i < np + 1 := nb_gef (by omega) (by omega) c127
                    refine lv_aload_n hx hb d_Mod_place_130 rfl (lv_at hl 0 rfl) ?_
                    refine lv_iload_n hx hb d_Mod_place_131 rfl (lv_at hl 2 rfl) ?_
                    refine lv_iload_n hx hb d_Mod_place_132 rfl (lv_at hl 3 rfl) ?_
                    refine mm_qv (mm_runV hK ⟨hx, hb, hml, hown⟩ lk_Mod_102 (c_Mod_look l G o ad nf wt (np + 1) kK kW kF kS kL kE (va_up tm np x1) pr9 ga9 ho9 pa fr rg re hD f i hF (by omega) (by omega) hT9 hB9) ⟨rfl, rfl, by decide, by decide⟩ (mm_rc hK hP 0 rfl rfl) hP rfl hl.1 rfl (Nat.le_of_ble_eq_true rfl) ⟨by decide, by decide⟩ d_Mod_place_133) hS (fun q h => h) (fun H locs e133 hz1 hk1 hS => ?_)
                    have hP := e133
                    have hD : va_D A (TW G o ad nf wt (np + 1) kK kW kF kS kL kE (va_up tm np x1) pr9 ga9 (va_up ho9 (24 * f + i) (setR (fun n => satB kK kW kF kS kL kE (va_up tm np x1) pr9 (np + 1) ho9 f i n) 64)) pa fr rg re) := mD hD rfl
                    refine lv_iinc (k := 3) (v := nI (i + 1)) (lv' := [(3, .int (nI (i + 1))), (0, .ref o), (1, .int (nI x1)), (2, .int (nI f))]) hx hb d_Mod_place_136 hl rfl (inc1 _) (by decide) rfl (fun ls hl => ?_)
                    refine lv_goto hx hb d_Mod_place_139 (tgt := 122) (by decide) ?_
                    exact ih122 ((i + 1), (va_up ho9 (24 * f + i) (setR (fun n => satB kK kW kF kS kL kE (va_up tm np x1) pr9 (np + 1) ho9 f i n) 64))) _ _ _ ⟨(lv_sub hl [1, 2, 3, 0] rfl), hP, hD, hS, (by omega), (FQ_step hF (by omega) hT9.1 (by omega) hQ)⟩ (by (try dsimp only); omega)
              · have c64 : k < 3 := nb_gef (by omega) (by omega) c64
                refine lv_aload_n hx hb d_Mod_place_67 rfl (lv_at hl 0 rfl) ?_
                refine mm_get (v := .ref (ad 7)) hK hx hb hown lg_Mod_31 hP 0 rfl rfl d_Mod_place_68 ?_
                refine lv_bipush (v := nI 24) hx hb d_Mod_place_71 (by decide) ?_
                refine lv_iload_n hx hb d_Mod_place_73 rfl (lv_at hl 2 rfl) ?_
                refine lv_imul hx hb d_Mod_place_74 ?_
                refine mm_ti (pk_mul _ _) ?_
                refine lv_aload_n hx hb d_Mod_place_75 rfl (lv_at hl 0 rfl) ?_
                refine mm_get (v := .int (nI np)) hK hx hb hown lg_Mod_96 hP 0 rfl rfl d_Mod_place_76 ?_
                refine lv_iadd hx hb d_Mod_place_79 ?_
                refine mm_ti (nI_add _ _) ?_
                refine lv_aload_n hx hb d_Mod_place_80 rfl (lv_at hl 0 rfl) ?_
                refine mm_get (v := .ref (ad 8)) hK hx hb hown lg_Mod_34 hP 0 rfl rfl d_Mod_place_81 ?_
                refine lv_iload_n hx hb d_Mod_place_84 rfl (lv_at hl 2 rfl) ?_
                refine mm_iald hK hx hb hP 9 rfl (by decide) (i := k) (by omega) d_Mod_place_85 ?_
                refine mm_iastN (x := ga9 k) hK hx hb hP hD hS 8 rfl (by decide) (i := (24 * k) + np) (by omega) d_Mod_place_86 (fun H locs hP hD hS => ?_)
                have hP : va_P G.1 cls_all (TW G o ad nf wt np kK kW kF kS kL kE (va_up tm np x1) (va_up pr9 ((24 * k) + np) (ga9 k)) ga9 ho pa fr rg re) H := hP
                have hD : va_D A (TW G o ad nf wt np kK kW kF kS kL kE (va_up tm np x1) (va_up pr9 ((24 * k) + np) (ga9 k)) ga9 ho pa fr rg re) := hD
                refine lv_aload_n hx hb d_Mod_place_87 rfl (lv_at hl 0 rfl) ?_
                refine mm_get (v := .ref (ad 8)) hK hx hb hown lg_Mod_34 hP 0 rfl rfl d_Mod_place_88 ?_
                refine lv_iload_n hx hb d_Mod_place_91 rfl (lv_at hl 2 rfl) ?_
                refine lv_iconst hx hb d_Mod_place_92 ci_0 ?_
                refine mm_iastN (x := 0) hK hx hb hP hD hS 9 rfl (by decide) (i := k) (by omega) d_Mod_place_93 (fun H locs hP hD hS => ?_)
                have hP : va_P G.1 cls_all (TW G o ad nf wt np kK kW kF kS kL kE (va_up tm np x1) (va_up pr9 ((24 * k) + np) (ga9 k)) (va_up ga9 k 0) ho pa fr rg re) H := hP
                have hD : va_D A (TW G o ad nf wt np kK kW kF kS kL kE (va_up tm np x1) (va_up pr9 ((24 * k) + np) (ga9 k)) (va_up ga9 k 0) ho pa fr rg re) := hD
                refine lv_iinc (k := 2) (v := nI (k + 1)) (lv' := [(2, .int (nI (k + 1))), (0, .ref o), (1, .int (nI x1))]) hx hb d_Mod_place_94 hl rfl (inc1 _) (by decide) rfl (fun ls hl => ?_)
                refine lv_goto hx hb d_Mod_place_97 (tgt := 62) (by decide) ?_
                exact ih62 ((k + 1), (va_up pr9 ((24 * k) + np) (ga9 k)), (va_up ga9 k 0)) _ _ _ ⟨(lv_sub hl [1, 2, 0] rfl), hP, hD, hS, (by omega), (PM_step hM (by omega) (by omega) hg)⟩ (by (try dsimp only); omega)
            · rw [Int32.le_iff_toInt_le, nI_toInt (n := tm (np - 1)) (by omega)] at c45
              refine lv_iconst hx hb d_Mod_place_48 ci_m1 ?_
              exact mm_irQ hx hb hr hk hS d_Mod_place_49 ⟨fun h => absurd h (fun h => by obtain ⟨h1, ⟨h2, h3⟩, h4, h5⟩ := h; first | omega | exact absurd (c4.symm.trans h1) (by decide) | (have h6 := h5 (by omega); omega)), fun _ => ⟨rfl, hP⟩⟩
set_option maxHeartbeats 4000000 in
set_option maxRecDepth 100000 in
theorem c_Mod_decided (l : Launch) (G : mm_G) (o : Nat) (ad : Nat → Nat) (nf : Nat) (wt : Bool) (np : Nat) (kK kW kF kS kL kE tm pr ga : Nat → Nat) (ho : Nat → Int64) (pa : Nat → Bool) (fr rg re : Nat → Nat) (f mm : Nat) (hf : f < 12) (hE : kE f ≤ 1000001) (hm : mm ≤ 24) (hT : TL np tm) : Met l y_Mod_decided [.code y_Mod_decided b_Mod_decided 7 (some .int)] { frames := 0, cells := 0, slots := 0, locals := 0 } (mm_Pre G [.ref o, .int (nI f), .int (nI mm)] (fun H => va_P G.1 cls_all (TW G o ad nf wt np kK kW kF kS kL kE tm pr ga ho pa fr rg re) H)) (vp_Si (fun r => r = nI (dcR tm np (kE f) mm np))) 0 0 (fun _ => False) := by
  refine mm_of (by decide) (Nat.le_of_ble_eq_true rfl) ?_
  intro p e s m below meth c ls hx hb hr hk hml hown hnm hK hP hl
  have hl : lv_has ls 7 [(0, .ref o), (1, .int (nI f)), (2, .int (nI mm))] := hl
  obtain ⟨t1, t2, t3⟩ := hT
  refine lv_iconst hx hb d_Mod_decided_0 ci_0 ?_
  refine lv_istore_n (lv' := [(3, .int (nI 0)), (0, .ref o), (1, .int (nI f)), (2, .int (nI mm))]) hx hb d_Mod_decided_1 rfl hl (by decide) rfl (fun ls hl => ?_)
  refine lv_iconst hx hb d_Mod_decided_2 ci_0 ?_
  refine lv_istore (lv' := [(4, .int (nI 0)), (3, .int (nI 0)), (0, .ref o), (1, .int (nI f)), (2, .int (nI mm))]) hx hb d_Mod_decided_3 hl (by decide) rfl (fun ls hl => ?_)
  refine mm_loopR (σ := (Nat) × (Nat)) (fun x ls => match x with | (i, d9) => lv_has ls 7 [(0, .ref o), (1, .int (nI f)), (2, .int (nI mm)), (3, .int (nI d9)), (4, .int (nI i))] ∧ (i ≤ np) ∧ (d9 = dcR tm np (kE f) mm i) ∧ (d9 ≤ i)) (fun x => match x with | (i, d9) => np - i) ?_ (0, 0) _ ⟨(lv_sub hl [2, 3, 4, 1, 0] rfl), (Nat.zero_le _), rfl, (Nat.le_refl _)⟩
  rintro ⟨i, d9⟩ ls ⟨hl, hi9, hd, hd2⟩ ih5
  refine lv_iload hx hb d_Mod_decided_5 (lv_at hl 4 rfl) ?_
  refine lv_aload_n hx hb d_Mod_decided_7 rfl (lv_at hl 0 rfl) ?_
  refine mm_get (v := .int (nI np)) hK hx hb hown lg_Mod_96 hP 0 rfl rfl d_Mod_decided_8 ?_
  refine lv_icmp_ge hx hb d_Mod_decided_11 (tgt := 96) (by decide) (fun c11 => ?_) (fun c11 => ?_)
  · have c11 : i ≥ np := nb_get (by omega) (by omega) c11
    refine lv_iload_n hx hb d_Mod_decided_96 rfl (lv_at hl 3 rfl) ?_
    exact mm_irS hx hb hr hk d_Mod_decided_97 (by rw [hd, show i = np by omega])
  · have c11 : i < np := nb_gef (by omega) (by omega) c11
    have b1 := t2 i c11
    refine lv_iconst hx hb d_Mod_decided_14 ci_0 ?_
    refine mm_ti (y := bI false) (by decide) ?_
    refine lv_istore (lv' := [(5, .int (bI false)), (0, .ref o), (1, .int (nI f)), (2, .int (nI mm)), (3, .int (nI d9)), (4, .int (nI i))]) hx hb d_Mod_decided_15 hl (by decide) rfl (fun ls hl => ?_)
    refine lv_iconst hx hb d_Mod_decided_17 ci_0 ?_
    refine lv_istore (lv' := [(6, .int (nI 0)), (5, .int (bI false)), (0, .ref o), (1, .int (nI f)), (2, .int (nI mm)), (3, .int (nI d9)), (4, .int (nI i))]) hx hb d_Mod_decided_18 hl (by decide) rfl (fun ls hl => ?_)
    refine mm_loopR (σ := (Nat) × (Bool)) (fun x ls => match x with | (k, b9) => lv_has ls 7 [(0, .ref o), (1, .int (nI f)), (2, .int (nI mm)), (3, .int (nI d9)), (4, .int (nI i)), (5, .int (bI b9)), (6, .int (nI k))] ∧ (k ≤ mm + 1 ∧ k ≤ np) ∧ (b9 = ovR tm (tm i + kE f) k)) (fun x => match x with | (k, b9) => np - k) ?_ (0, false) _ ⟨(lv_sub hl [2, 3, 4, 5, 6, 1, 0] rfl), ⟨Nat.zero_le _, Nat.zero_le _⟩, rfl⟩
    rintro ⟨k, b9⟩ ls ⟨hl, hk9, hb9⟩ ih20
    refine lv_iload hx hb d_Mod_decided_20 (lv_at hl 6 rfl) ?_
    refine lv_iload_n hx hb d_Mod_decided_22 rfl (lv_at hl 2 rfl) ?_
    refine lv_icmp_gt hx hb d_Mod_decided_23 (tgt := 77) (by decide) (fun c23 => ?_) (fun c23 => ?_)
    · have c23 : k > mm := nb_gtt (by omega) (by omega) c23
      refine lv_iload hx hb d_Mod_decided_77 (lv_at hl 5 rfl) ?_
      refine mm_ifeqB hx hb d_Mod_decided_79 (tgt := 88) (by decide) (fun c79 => ?_) (fun c79 => ?_)
      · refine lv_iload_n hx hb d_Mod_decided_88 rfl (lv_at hl 3 rfl) ?_
        refine lv_istore_n (lv' := [(3, .int (nI d9)), (0, .ref o), (1, .int (nI f)), (2, .int (nI mm)), (4, .int (nI i)), (5, .int (bI b9)), (6, .int (nI k))]) hx hb d_Mod_decided_89 rfl hl (by decide) rfl (fun ls hl => ?_)
        refine lv_iinc (k := 4) (v := nI (i + 1)) (lv' := [(4, .int (nI (i + 1))), (3, .int (nI d9)), (0, .ref o), (1, .int (nI f)), (2, .int (nI mm)), (5, .int (bI b9)), (6, .int (nI k))]) hx hb d_Mod_decided_90 hl rfl (inc1 _) (by decide) rfl (fun ls hl => ?_)
        refine lv_goto hx hb d_Mod_decided_93 (tgt := 5) (by decide) ?_
        exact ih5 ((i + 1), d9) _ ⟨(lv_sub hl [2, 3, 4, 1, 0] rfl), (by omega), (by rw [dcR, hd]; exact (if_neg (by rw [show min (mm + 1) np = k by omega, ← hb9, c79]; decide)).symm), (by omega)⟩ (by (try dsimp only); omega)
      · refine lv_iload_n hx hb d_Mod_decided_82 rfl (lv_at hl 3 rfl) ?_
        refine lv_iconst hx hb d_Mod_decided_83 ci_1 ?_
        refine lv_iadd hx hb d_Mod_decided_84 ?_
        refine mm_ti (nI_add _ _) ?_
        refine lv_goto hx hb d_Mod_decided_85 (tgt := 89) (by decide) ?_
        refine lv_istore_n (lv' := [(3, .int (nI (d9 + 1))), (0, .ref o), (1, .int (nI f)), (2, .int (nI mm)), (4, .int (nI i)), (5, .int (bI b9)), (6, .int (nI k))]) hx hb d_Mod_decided_89 rfl hl (by decide) rfl (fun ls hl => ?_)
        refine lv_iinc (k := 4) (v := nI (i + 1)) (lv' := [(4, .int (nI (i + 1))), (3, .int (nI (d9 + 1))), (0, .ref o), (1, .int (nI f)), (2, .int (nI mm)), (5, .int (bI b9)), (6, .int (nI k))]) hx hb d_Mod_decided_90 hl rfl (inc1 _) (by decide) rfl (fun ls hl => ?_)
        refine lv_goto hx hb d_Mod_decided_93 (tgt := 5) (by decide) ?_
        exact ih5 ((i + 1), (d9 + 1)) _ ⟨(lv_sub hl [2, 3, 4, 1, 0] rfl), (by omega), (by rw [dcR, hd]; exact (if_pos (by rw [show min (mm + 1) np = k by omega, ← hb9, c79])).symm), (by omega)⟩ (by (try dsimp only); omega)
    · have c23 : k ≤ mm := nb_gtf (by omega) (by omega) c23
      refine lv_iload hx hb d_Mod_decided_26 (lv_at hl 6 rfl) ?_
      refine lv_aload_n hx hb d_Mod_decided_28 rfl (lv_at hl 0 rfl) ?_
      refine mm_get (v := .int (nI np)) hK hx hb hown lg_Mod_96 hP 0 rfl rfl d_Mod_decided_29 ?_
      refine lv_icmp_ge hx hb d_Mod_decided_32 (tgt := 77) (by decide) (fun c32 => ?_) (fun c32 => ?_)
      · have c32 : k ≥ np := nb_get (by omega) (by omega) c32
        refine lv_iload hx hb d_Mod_decided_77 (lv_at hl 5 rfl) ?_
        refine mm_ifeqB hx hb d_Mod_decided_79 (tgt := 88) (by decide) (fun c79 => ?_) (fun c79 => ?_)
        · refine lv_iload_n hx hb d_Mod_decided_88 rfl (lv_at hl 3 rfl) ?_
          refine lv_istore_n (lv' := [(3, .int (nI d9)), (0, .ref o), (1, .int (nI f)), (2, .int (nI mm)), (4, .int (nI i)), (5, .int (bI b9)), (6, .int (nI k))]) hx hb d_Mod_decided_89 rfl hl (by decide) rfl (fun ls hl => ?_)
          refine lv_iinc (k := 4) (v := nI (i + 1)) (lv' := [(4, .int (nI (i + 1))), (3, .int (nI d9)), (0, .ref o), (1, .int (nI f)), (2, .int (nI mm)), (5, .int (bI b9)), (6, .int (nI k))]) hx hb d_Mod_decided_90 hl rfl (inc1 _) (by decide) rfl (fun ls hl => ?_)
          refine lv_goto hx hb d_Mod_decided_93 (tgt := 5) (by decide) ?_
          exact ih5 ((i + 1), d9) _ ⟨(lv_sub hl [2, 3, 4, 1, 0] rfl), (by omega), (by rw [dcR, hd]; exact (if_neg (by rw [show min (mm + 1) np = k by omega, ← hb9, c79]; decide)).symm), (by omega)⟩ (by (try dsimp only); omega)
        · refine lv_iload_n hx hb d_Mod_decided_82 rfl (lv_at hl 3 rfl) ?_
          refine lv_iconst hx hb d_Mod_decided_83 ci_1 ?_
          refine lv_iadd hx hb d_Mod_decided_84 ?_
          refine mm_ti (nI_add _ _) ?_
          refine lv_goto hx hb d_Mod_decided_85 (tgt := 89) (by decide) ?_
          refine lv_istore_n (lv' := [(3, .int (nI (d9 + 1))), (0, .ref o), (1, .int (nI f)), (2, .int (nI mm)), (4, .int (nI i)), (5, .int (bI b9)), (6, .int (nI k))]) hx hb d_Mod_decided_89 rfl hl (by decide) rfl (fun ls hl => ?_)
          refine lv_iinc (k := 4) (v := nI (i + 1)) (lv' := [(4, .int (nI (i + 1))), (3, .int (nI (d9 + 1))), (0, .ref o), (1, .int (nI f)), (2, .int (nI mm)), (5, .int (bI b9)), (6, .int (nI k))]) hx hb d_Mod_decided_90 hl rfl (inc1 _) (by decide) rfl (fun ls hl => ?_)
          refine lv_goto hx hb d_Mod_decided_93 (tgt := 5) (by decide) ?_
          exact ih5 ((i + 1), (d9 + 1)) _ ⟨(lv_sub hl [2, 3, 4, 1, 0] rfl), (by omega), (by rw [dcR, hd]; exact (if_pos (by rw [show min (mm + 1) np = k by omega, ← hb9, c79])).symm), (by omega)⟩ (by (try dsimp only); omega)
      · have c32 : k < np := nb_gef (by omega) (by omega) c32
        have b2 := t2 k c32
        refine lv_iload hx hb d_Mod_decided_35 (lv_at hl 5 rfl) ?_
        refine mm_ifneB hx hb d_Mod_decided_37 (tgt := 64) (by decide) (fun c37 => ?_) (fun c37 => ?_)
        · refine lv_iconst hx hb d_Mod_decided_64 ci_1 ?_
          refine lv_goto hx hb d_Mod_decided_65 (tgt := 69) (by decide) ?_
          refine mm_ti (y := bI true) (by decide) ?_
          refine lv_istore (lv' := [(5, .int (bI true)), (0, .ref o), (1, .int (nI f)), (2, .int (nI mm)), (3, .int (nI d9)), (4, .int (nI i)), (6, .int (nI k))]) hx hb d_Mod_decided_69 hl (by decide) rfl (fun ls hl => ?_)
          refine lv_iinc (k := 6) (v := nI (k + 1)) (lv' := [(6, .int (nI (k + 1))), (5, .int (bI true)), (0, .ref o), (1, .int (nI f)), (2, .int (nI mm)), (3, .int (nI d9)), (4, .int (nI i))]) hx hb d_Mod_decided_71 hl rfl (inc1 _) (by decide) rfl (fun ls hl => ?_)
          refine lv_goto hx hb d_Mod_decided_74 (tgt := 20) (by decide) ?_
          exact ih20 ((k + 1), true) _ ⟨(lv_sub hl [2, 3, 4, 5, 6, 1, 0] rfl), ⟨by omega, by omega⟩, (by rw [ovR, ← hb9]; first | (rw [c37]; rfl) | (rw [c37, decide_eq_true (by omega)]; rfl) | (rw [c37, decide_eq_false (by omega)]; rfl))⟩ (by (try dsimp only); omega)
        · refine lv_aload_n hx hb d_Mod_decided_40 rfl (lv_at hl 0 rfl) ?_
          refine mm_get (v := .ref (ad 6)) hK hx hb hown lg_Mod_28 hP 0 rfl rfl d_Mod_decided_41 ?_
          refine lv_iload hx hb d_Mod_decided_44 (lv_at hl 6 rfl) ?_
          refine mm_iald hK hx hb hP 7 rfl (by decide) (i := k) (by omega) d_Mod_decided_46 ?_
          refine lv_aload_n hx hb d_Mod_decided_47 rfl (lv_at hl 0 rfl) ?_
          refine mm_get (v := .ref (ad 6)) hK hx hb hown lg_Mod_28 hP 0 rfl rfl d_Mod_decided_48 ?_
          refine lv_iload hx hb d_Mod_decided_51 (lv_at hl 4 rfl) ?_
          refine mm_iald hK hx hb hP 7 rfl (by decide) (i := i) (by omega) d_Mod_decided_53 ?_
          refine lv_aload_n hx hb d_Mod_decided_54 rfl (lv_at hl 0 rfl) ?_
          refine mm_get (v := .ref (ad 5)) hK hx hb hown lg_Mod_25 hP 0 rfl rfl d_Mod_decided_55 ?_
          refine lv_iload_n hx hb d_Mod_decided_58 rfl (lv_at hl 1 rfl) ?_
          refine mm_iald hK hx hb hP 6 rfl (by decide) (i := f) (by omega) d_Mod_decided_59 ?_
          refine lv_iadd hx hb d_Mod_decided_60 ?_
          refine mm_ti (y := nI (tm i + kE f) - 1) (nI_addE _ _) ?_
          refine lv_icmp_le hx hb d_Mod_decided_61 (tgt := 68) (by decide) (fun c61 => ?_) (fun c61 => ?_)
          · rw [Int32.le_iff_toInt_le, nI_toInt (n := tm k) (by omega), eI_toInt (n := tm i + kE f) (by omega)] at c61
            refine lv_iconst hx hb d_Mod_decided_68 ci_0 ?_
            refine mm_ti (y := bI false) (by decide) ?_
            refine lv_istore (lv' := [(5, .int (bI false)), (0, .ref o), (1, .int (nI f)), (2, .int (nI mm)), (3, .int (nI d9)), (4, .int (nI i)), (6, .int (nI k))]) hx hb d_Mod_decided_69 hl (by decide) rfl (fun ls hl => ?_)
            refine lv_iinc (k := 6) (v := nI (k + 1)) (lv' := [(6, .int (nI (k + 1))), (5, .int (bI false)), (0, .ref o), (1, .int (nI f)), (2, .int (nI mm)), (3, .int (nI d9)), (4, .int (nI i))]) hx hb d_Mod_decided_71 hl rfl (inc1 _) (by decide) rfl (fun ls hl => ?_)
            refine lv_goto hx hb d_Mod_decided_74 (tgt := 20) (by decide) ?_
            exact ih20 ((k + 1), false) _ ⟨(lv_sub hl [2, 3, 4, 5, 6, 1, 0] rfl), ⟨by omega, by omega⟩, (by rw [ovR, ← hb9]; first | (rw [c37]; rfl) | (rw [c37, decide_eq_true (by omega)]; rfl) | (rw [c37, decide_eq_false (by omega)]; rfl))⟩ (by (try dsimp only); omega)
          · rw [Int32.le_iff_toInt_le, nI_toInt (n := tm k) (by omega), eI_toInt (n := tm i + kE f) (by omega)] at c61
            refine lv_iconst hx hb d_Mod_decided_64 ci_1 ?_
            refine lv_goto hx hb d_Mod_decided_65 (tgt := 69) (by decide) ?_
            refine mm_ti (y := bI true) (by decide) ?_
            refine lv_istore (lv' := [(5, .int (bI true)), (0, .ref o), (1, .int (nI f)), (2, .int (nI mm)), (3, .int (nI d9)), (4, .int (nI i)), (6, .int (nI k))]) hx hb d_Mod_decided_69 hl (by decide) rfl (fun ls hl => ?_)
            refine lv_iinc (k := 6) (v := nI (k + 1)) (lv' := [(6, .int (nI (k + 1))), (5, .int (bI true)), (0, .ref o), (1, .int (nI f)), (2, .int (nI mm)), (3, .int (nI d9)), (4, .int (nI i))]) hx hb d_Mod_decided_71 hl rfl (inc1 _) (by decide) rfl (fun ls hl => ?_)
            refine lv_goto hx hb d_Mod_decided_74 (tgt := 20) (by decide) ?_
            exact ih20 ((k + 1), true) _ ⟨(lv_sub hl [2, 3, 4, 5, 6, 1, 0] rfl), ⟨by omega, by omega⟩, (by rw [ovR, ← hb9]; first | (rw [c37]; rfl) | (rw [c37, decide_eq_true (by omega)]; rfl) | (rw [c37, decide_eq_false (by omega)]; rfl))⟩ (by (try dsimp only); omega)
set_option maxHeartbeats 4000000 in
set_option maxRecDepth 100000 in
theorem c_Mod_progress (l : Launch) (G : mm_G) (o : Nat) (ad : Nat → Nat) (nf : Nat) (wt : Bool) (np : Nat) (kK kW kF kS kL kE tm pr ga : Nat → Nat) (ho : Nat → Int64) (pa : Nat → Bool) (fr rg re : Nat → Nat) {A : Nat → Prop} (hD : va_D A (TW G o ad nf wt np kK kW kF kS kL kE tm pr ga ho pa fr rg re)) (RE : Nat → Nat) (hF : WF nf kK kW kF kS kL kE) (hT : TL np tm) (hR : RP nf kK kF kS kE tm np RE) (f : Int32) : Met l y_Mod_progress [.code y_Mod_progress b_Mod_progress 4 (some .int)] { frames := 1, cells := 0, slots := 0, locals := 26 } (mm_Pre G [.ref o, .int f] (fun H => va_P G.1 cls_all (TW G o ad nf wt np kK kW kF kS kL kE tm pr ga ho pa fr rg re) H)) (mm_Qi (fun r H => (∃ re9, va_P G.1 cls_all (TW G o ad nf wt np kK kW kF kS kL kE tm pr ga ho pa fr rg re9) H) ∧ r = (if fmB f nf = true then nI (RE (cN f)) else -1)) A) 0 0 A := by
  refine mm_of (by decide) (Nat.le_of_ble_eq_true rfl) ?_
  intro p e s m below meth c ls hx hb hr hk hml hown hnm hK hP hl
  have hl : lv_has ls 4 [(0, .ref o), (1, .int f)] := hl
  have hS : va_S A s.heap s.heap [] := va_S.rf
  have hn := hF.1
  have hq := hT.1
  refine lv_aload_n hx hb d_Mod_progress_0 rfl (lv_at hl 0 rfl) ?_
  refine lv_iload_n hx hb d_Mod_progress_1 rfl (lv_at hl 1 rfl) ?_
  refine mm_si (mm_runV hK ⟨hx, hb, hml, hown⟩ lk_Mod_75 (c_Mod_isFormula l G o ad nf wt np kK kW kF kS kL kE tm pr ga ho pa fr rg re f hn) ⟨rfl, rfl, by decide, by decide⟩ (mm_rc hK hP 0 rfl rfl) hP rfl hl.1 rfl (Nat.le_of_ble_eq_true rfl) ⟨by decide, by decide⟩ d_Mod_progress_2) (fun r2 e2 => ?_)
  subst e2
  refine mm_ifneB hx hb d_Mod_progress_5 (tgt := 10) (by decide) (fun c5 => ?_) (fun c5 => ?_)
  · obtain ⟨x1, rfl, y1⟩ := fm_of c5
    refine lv_iconst hx hb d_Mod_progress_10 ci_0 ?_
    refine lv_istore_n (lv' := [(2, .int (nI 0)), (0, .ref o), (1, .int (nI x1))]) hx hb d_Mod_progress_11 rfl hl (by decide) rfl (fun ls hl => ?_)
    refine mm_loop (σ := (Nat) × (Nat → Nat)) (fun x ls H locs => match x with | (k, g) => lv_has ls 4 [(0, .ref o), (1, .int (nI x1)), (2, .int (nI k))] ∧ va_P G.1 cls_all (TW G o ad nf wt np kK kW kF kS kL kE tm pr ga ho pa fr rg g) H ∧ va_D A (TW G o ad nf wt np kK kW kF kS kL kE tm pr ga ho pa fr rg g) ∧ va_S A s.heap H locs ∧ (k ≤ x1 + 1) ∧ (∀ j, j < k → g j = RE j)) (fun x => match x with | (k, g) => x1 + 1 - k) ?_ (0, re) _ _ _ ⟨(lv_sub hl [1, 2, 0] rfl), hP, hD, hS, (by omega), (fun j hj => absurd hj (Nat.not_lt_zero _))⟩
    rintro ⟨k, g⟩ ls H locs ⟨hl, hP, hD, hS, hk9, hg⟩ ih12
    refine lv_iload_n hx hb d_Mod_progress_12 rfl (lv_at hl 2 rfl) ?_
    refine lv_iload_n hx hb d_Mod_progress_13 rfl (lv_at hl 1 rfl) ?_
    refine lv_icmp_gt hx hb d_Mod_progress_14 (tgt := 119) (by decide) (fun c14 => ?_) (fun c14 => ?_)
    · have c14 : k > x1 := nb_gtt (by omega) (by omega) c14
      refine lv_aload_n hx hb d_Mod_progress_119 rfl (lv_at hl 0 rfl) ?_
      refine mm_get (v := .ref (ad 13)) hK hx hb hown lg_Mod_51 hP 0 rfl rfl d_Mod_progress_120 ?_
      refine lv_iload_n hx hb d_Mod_progress_123 rfl (lv_at hl 1 rfl) ?_
      refine mm_iald hK hx hb hP 14 rfl (by decide) (i := x1) (by omega) d_Mod_progress_124 ?_
      refine mm_ti (y := nI (RE x1)) (congrArg nI (hg _ (by omega))) ?_
      exact mm_irQ hx hb hr hk hS d_Mod_progress_125 ⟨⟨_, hP⟩, by rw [if_pos c5, cN_nI (by omega)]⟩
    · have c14 : k ≤ x1 := nb_gtf (by omega) (by omega) c14
      obtain ⟨a1, a2, a3, a4, a5, a6⟩ := hF.2 k (by omega)
      refine lv_aload_n hx hb d_Mod_progress_17 rfl (lv_at hl 0 rfl) ?_
      refine mm_get (v := .ref (ad 0)) hK hx hb hown lg_Mod_7 hP 0 rfl rfl d_Mod_progress_18 ?_
      refine lv_iload_n hx hb d_Mod_progress_21 rfl (lv_at hl 2 rfl) ?_
      refine mm_iald hK hx hb hP 1 rfl (by decide) (i := k) (by omega) d_Mod_progress_22 ?_
      refine lv_iconst hx hb d_Mod_progress_23 ci_2 ?_
      refine lv_icmp_gt hx hb d_Mod_progress_24 (tgt := 34) (by decide) (fun c24 => ?_) (fun c24 => ?_)
      · have c24 : kK k > 2 := nb_gtt (by omega) (by omega) c24
        obtain ⟨q1, q2⟩ := a6 (by omega)
        have u1 := (hR (kF k) (by omega)).2
        have u2 := (hR (kS k) (by omega)).2
        refine lv_aload_n hx hb d_Mod_progress_34 rfl (lv_at hl 0 rfl) ?_
        refine lv_aload_n hx hb d_Mod_progress_35 rfl (lv_at hl 0 rfl) ?_
        refine mm_get (v := .ref (ad 13)) hK hx hb hown lg_Mod_51 hP 0 rfl rfl d_Mod_progress_36 ?_
        refine lv_aload_n hx hb d_Mod_progress_39 rfl (lv_at hl 0 rfl) ?_
        refine mm_get (v := .ref (ad 2)) hK hx hb hown lg_Mod_16 hP 0 rfl rfl d_Mod_progress_40 ?_
        refine lv_iload_n hx hb d_Mod_progress_43 rfl (lv_at hl 2 rfl) ?_
        refine mm_iald hK hx hb hP 3 rfl (by decide) (i := k) (by omega) d_Mod_progress_44 ?_
        refine mm_iald hK hx hb hP 14 rfl (by decide) (i := kF k) (by omega) d_Mod_progress_45 ?_
        refine mm_ti (y := nI (RE (kF k))) (congrArg nI (hg _ q1)) ?_
        refine lv_aload_n hx hb d_Mod_progress_46 rfl (lv_at hl 0 rfl) ?_
        refine mm_get (v := .ref (ad 13)) hK hx hb hown lg_Mod_51 hP 0 rfl rfl d_Mod_progress_47 ?_
        refine lv_aload_n hx hb d_Mod_progress_50 rfl (lv_at hl 0 rfl) ?_
        refine mm_get (v := .ref (ad 3)) hK hx hb hown lg_Mod_19 hP 0 rfl rfl d_Mod_progress_51 ?_
        refine lv_iload_n hx hb d_Mod_progress_54 rfl (lv_at hl 2 rfl) ?_
        refine mm_iald hK hx hb hP 4 rfl (by decide) (i := k) (by omega) d_Mod_progress_55 ?_
        refine mm_iald hK hx hb hP 14 rfl (by decide) (i := kS k) (by omega) d_Mod_progress_56 ?_
        refine mm_ti (y := nI (RE (kS k))) (congrArg nI (hg _ q2)) ?_
        refine mm_si (mm_runV hK ⟨hx, hb, hml, hown⟩ lk_Mod_130 (c_Mod_lesser l G o ad nf wt np kK kW kF kS kL kE tm pr ga ho pa fr rg g (RE (kF k)) (RE (kS k)) (by omega) (by omega)) ⟨rfl, rfl, by decide, by decide⟩ (mm_rc hK hP 0 rfl rfl) hP rfl hl.1 rfl (Nat.le_of_ble_eq_true rfl) ⟨by decide, by decide⟩ d_Mod_progress_57) (fun r57 e57 => ?_)
        subst e57
        refine lv_istore_n (lv' := [(3, .int (nI (min (RE (kF k)) (RE (kS k))))), (0, .ref o), (1, .int (nI x1)), (2, .int (nI k))]) hx hb d_Mod_progress_60 rfl hl (by decide) rfl (fun ls hl => ?_)
        refine lv_aload_n hx hb d_Mod_progress_61 rfl (lv_at hl 1 rfl) ?_
        refine mm_get (v := .ref (ad 13)) hK hx hb hown lg_Mod_51 hP 0 rfl rfl d_Mod_progress_62 ?_
        refine lv_iload_n hx hb d_Mod_progress_65 rfl (lv_at hl 3 rfl) ?_
        refine lv_aload_n hx hb d_Mod_progress_66 rfl (lv_at hl 1 rfl) ?_
        refine mm_get (v := .ref (ad 0)) hK hx hb hown lg_Mod_7 hP 0 rfl rfl d_Mod_progress_67 ?_
        refine lv_iload_n hx hb d_Mod_progress_70 rfl (lv_at hl 3 rfl) ?_
        refine mm_iald hK hx hb hP 1 rfl (by decide) (i := k) (by omega) d_Mod_progress_71 ?_
        refine lv_bipush (v := nI 7) hx hb d_Mod_progress_72 (by decide) ?_
        refine lv_icmp_ne hx hb d_Mod_progress_74 (tgt := 91) (by decide) (fun c74 => ?_) (fun c74 => ?_)
        · have c74 : kK k ≠ 7 := nb_net (by omega) (by omega) c74
          refine lv_aload_n hx hb d_Mod_progress_91 rfl (lv_at hl 1 rfl) ?_
          refine mm_get (v := .ref (ad 0)) hK hx hb hown lg_Mod_7 hP 0 rfl rfl d_Mod_progress_92 ?_
          refine lv_iload_n hx hb d_Mod_progress_95 rfl (lv_at hl 3 rfl) ?_
          refine mm_iald hK hx hb hP 1 rfl (by decide) (i := k) (by omega) d_Mod_progress_96 ?_
          refine lv_bipush (v := nI 9) hx hb d_Mod_progress_97 (by decide) ?_
          refine lv_icmp_ne hx hb d_Mod_progress_99 (tgt := 111) (by decide) (fun c99 => ?_) (fun c99 => ?_)
          · have c99 : kK k ≠ 9 := nb_net (by omega) (by omega) c99
            refine lv_iload_n hx hb d_Mod_progress_111 rfl (lv_at hl 0 rfl) ?_
            refine mm_iastN (x := min (RE (kF k)) (RE (kS k))) hK hx hb hP hD hS 14 rfl (by decide) (i := k) (by omega) d_Mod_progress_112 (fun H locs hP hD hS => ?_)
            have hP : va_P G.1 cls_all (TW G o ad nf wt np kK kW kF kS kL kE tm pr ga ho pa fr rg (va_up g k (min (RE (kF k)) (RE (kS k))))) H := hP
            have hD : va_D A (TW G o ad nf wt np kK kW kF kS kL kE tm pr ga ho pa fr rg (va_up g k (min (RE (kF k)) (RE (kS k))))) := hD
            refine lv_iinc (k := 3) (v := nI (k + 1)) (lv' := [(2, .int (nI (k + 1))), (3, .int (nI (min (RE (kF k)) (RE (kS k))))), (0, .ref o), (1, .int (nI x1))]) hx hb d_Mod_progress_113 hl rfl (inc1 _) (by decide) rfl (fun ls hl => ?_)
            refine lv_goto hx hb d_Mod_progress_116 (tgt := 12) (by decide) ?_
            exact ih12 ((k + 1), (va_up g k (min (RE (kF k)) (RE (kS k))))) _ _ _ ⟨(lv_sub hl [2, 3, 0] rfl), hP, hD, hS, (by omega), (up_ext hg (by rw [(hR k (by omega)).1, reS, if_neg (by omega), if_neg (by omega), reM, if_neg (by omega)]))⟩ (by (try dsimp only); omega)
          · have c99 : kK k = 9 := nb_nef (by omega) (by omega) c99
            refine lv_aload_n hx hb d_Mod_progress_102 rfl (lv_at hl 1 rfl) ?_
            refine lv_iload_n hx hb d_Mod_progress_103 rfl (lv_at hl 3 rfl) ?_
            refine lv_iload_n hx hb d_Mod_progress_104 rfl (lv_at hl 0 rfl) ?_
            refine mm_si (mm_runV hK ⟨hx, hb, hml, hown⟩ lk_Mod_133 (c_Mod_decided l G o ad nf wt np kK kW kF kS kL kE tm pr ga ho pa fr rg g k (min (RE (kF k)) (RE (kS k))) (by omega) (by omega) (by omega) hT) ⟨rfl, rfl, by decide, by decide⟩ (mm_rc hK hP 0 rfl rfl) hP rfl hl.1 rfl (Nat.le_of_ble_eq_true rfl) ⟨by decide, by decide⟩ d_Mod_progress_105) (fun r105 e105 => ?_)
            subst e105
            refine lv_goto hx hb d_Mod_progress_108 (tgt := 112) (by decide) ?_
            refine mm_iastN (x := dcR tm np (kE k) (min (RE (kF k)) (RE (kS k))) np) hK hx hb hP hD hS 14 rfl (by decide) (i := k) (by omega) d_Mod_progress_112 (fun H locs hP hD hS => ?_)
            have hP : va_P G.1 cls_all (TW G o ad nf wt np kK kW kF kS kL kE tm pr ga ho pa fr rg (va_up g k (dcR tm np (kE k) (min (RE (kF k)) (RE (kS k))) np))) H := hP
            have hD : va_D A (TW G o ad nf wt np kK kW kF kS kL kE tm pr ga ho pa fr rg (va_up g k (dcR tm np (kE k) (min (RE (kF k)) (RE (kS k))) np))) := hD
            refine lv_iinc (k := 3) (v := nI (k + 1)) (lv' := [(2, .int (nI (k + 1))), (3, .int (nI (min (RE (kF k)) (RE (kS k))))), (0, .ref o), (1, .int (nI x1))]) hx hb d_Mod_progress_113 hl rfl (inc1 _) (by decide) rfl (fun ls hl => ?_)
            refine lv_goto hx hb d_Mod_progress_116 (tgt := 12) (by decide) ?_
            exact ih12 ((k + 1), (va_up g k (dcR tm np (kE k) (min (RE (kF k)) (RE (kS k))) np))) _ _ _ ⟨(lv_sub hl [2, 3, 0] rfl), hP, hD, hS, (by omega), (up_ext hg (by rw [(hR k (by omega)).1, reS, if_neg (by omega), if_pos c99, reM, if_neg (by omega)]))⟩ (by (try dsimp only); omega)
        · have c74 : kK k = 7 := nb_nef (by omega) (by omega) c74
          refine lv_aload_n hx hb d_Mod_progress_77 rfl (lv_at hl 1 rfl) ?_
          refine lv_aload_n hx hb d_Mod_progress_78 rfl (lv_at hl 1 rfl) ?_
          refine mm_get (v := .int (nI np)) hK hx hb hown lg_Mod_96 hP 0 rfl rfl d_Mod_progress_79 ?_
          refine lv_iload_n hx hb d_Mod_progress_82 rfl (lv_at hl 0 rfl) ?_
          refine lv_iconst hx hb d_Mod_progress_83 ci_1 ?_
          refine lv_iadd hx hb d_Mod_progress_84 ?_
          refine mm_ti (nI_add _ _) ?_
          refine mm_si (mm_runV hK ⟨hx, hb, hml, hown⟩ lk_Mod_130 (c_Mod_lesser l G o ad nf wt np kK kW kF kS kL kE tm pr ga ho pa fr rg g np ((min (RE (kF k)) (RE (kS k))) + 1) (by omega) (by omega)) ⟨rfl, rfl, by decide, by decide⟩ (mm_rc hK hP 0 rfl rfl) hP rfl hl.1 rfl (Nat.le_of_ble_eq_true rfl) ⟨by decide, by decide⟩ d_Mod_progress_85) (fun r85 e85 => ?_)
          subst e85
          refine lv_goto hx hb d_Mod_progress_88 (tgt := 112) (by decide) ?_
          refine mm_iastN (x := min np ((min (RE (kF k)) (RE (kS k))) + 1)) hK hx hb hP hD hS 14 rfl (by decide) (i := k) (by omega) d_Mod_progress_112 (fun H locs hP hD hS => ?_)
          have hP : va_P G.1 cls_all (TW G o ad nf wt np kK kW kF kS kL kE tm pr ga ho pa fr rg (va_up g k (min np ((min (RE (kF k)) (RE (kS k))) + 1)))) H := hP
          have hD : va_D A (TW G o ad nf wt np kK kW kF kS kL kE tm pr ga ho pa fr rg (va_up g k (min np ((min (RE (kF k)) (RE (kS k))) + 1)))) := hD
          refine lv_iinc (k := 3) (v := nI (k + 1)) (lv' := [(2, .int (nI (k + 1))), (3, .int (nI (min (RE (kF k)) (RE (kS k))))), (0, .ref o), (1, .int (nI x1))]) hx hb d_Mod_progress_113 hl rfl (inc1 _) (by decide) rfl (fun ls hl => ?_)
          refine lv_goto hx hb d_Mod_progress_116 (tgt := 12) (by decide) ?_
          exact ih12 ((k + 1), (va_up g k (min np ((min (RE (kF k)) (RE (kS k))) + 1)))) _ _ _ ⟨(lv_sub hl [2, 3, 0] rfl), hP, hD, hS, (by omega), (up_ext hg (by rw [(hR k (by omega)).1, reS, if_pos c74, reM, if_neg (by omega)]))⟩ (by (try dsimp only); omega)
      · have c24 : kK k ≤ 2 := nb_gtf (by omega) (by omega) c24
        refine lv_aload_n hx hb d_Mod_progress_27 rfl (lv_at hl 0 rfl) ?_
        refine mm_get (v := .int (nI np)) hK hx hb hown lg_Mod_96 hP 0 rfl rfl d_Mod_progress_28 ?_
        refine lv_goto hx hb d_Mod_progress_31 (tgt := 60) (by decide) ?_
        refine lv_istore_n (lv' := [(3, .int (nI np)), (0, .ref o), (1, .int (nI x1)), (2, .int (nI k))]) hx hb d_Mod_progress_60 rfl hl (by decide) rfl (fun ls hl => ?_)
        refine lv_aload_n hx hb d_Mod_progress_61 rfl (lv_at hl 1 rfl) ?_
        refine mm_get (v := .ref (ad 13)) hK hx hb hown lg_Mod_51 hP 0 rfl rfl d_Mod_progress_62 ?_
        refine lv_iload_n hx hb d_Mod_progress_65 rfl (lv_at hl 3 rfl) ?_
        refine lv_aload_n hx hb d_Mod_progress_66 rfl (lv_at hl 1 rfl) ?_
        refine mm_get (v := .ref (ad 0)) hK hx hb hown lg_Mod_7 hP 0 rfl rfl d_Mod_progress_67 ?_
        refine lv_iload_n hx hb d_Mod_progress_70 rfl (lv_at hl 3 rfl) ?_
        refine mm_iald hK hx hb hP 1 rfl (by decide) (i := k) (by omega) d_Mod_progress_71 ?_
        refine lv_bipush (v := nI 7) hx hb d_Mod_progress_72 (by decide) ?_
        refine lv_icmp_ne hx hb d_Mod_progress_74 (tgt := 91) (by decide) (fun c74 => ?_) (fun h9 => by have h9 : kK k = 7 := nb_nef (by omega) (by omega) h9; exfalso; omega)
        have c74 : kK k ≠ 7 := nb_net (by omega) (by omega) c74
        refine lv_aload_n hx hb d_Mod_progress_91 rfl (lv_at hl 1 rfl) ?_
        refine mm_get (v := .ref (ad 0)) hK hx hb hown lg_Mod_7 hP 0 rfl rfl d_Mod_progress_92 ?_
        refine lv_iload_n hx hb d_Mod_progress_95 rfl (lv_at hl 3 rfl) ?_
        refine mm_iald hK hx hb hP 1 rfl (by decide) (i := k) (by omega) d_Mod_progress_96 ?_
        refine lv_bipush (v := nI 9) hx hb d_Mod_progress_97 (by decide) ?_
        refine lv_icmp_ne hx hb d_Mod_progress_99 (tgt := 111) (by decide) (fun c99 => ?_) (fun h9 => by have h9 : kK k = 9 := nb_nef (by omega) (by omega) h9; exfalso; omega)
        have c99 : kK k ≠ 9 := nb_net (by omega) (by omega) c99
        refine lv_iload_n hx hb d_Mod_progress_111 rfl (lv_at hl 0 rfl) ?_
        refine mm_iastN (x := np) hK hx hb hP hD hS 14 rfl (by decide) (i := k) (by omega) d_Mod_progress_112 (fun H locs hP hD hS => ?_)
        have hP : va_P G.1 cls_all (TW G o ad nf wt np kK kW kF kS kL kE tm pr ga ho pa fr rg (va_up g k np)) H := hP
        have hD : va_D A (TW G o ad nf wt np kK kW kF kS kL kE tm pr ga ho pa fr rg (va_up g k np)) := hD
        refine lv_iinc (k := 3) (v := nI (k + 1)) (lv' := [(2, .int (nI (k + 1))), (3, .int (nI np)), (0, .ref o), (1, .int (nI x1))]) hx hb d_Mod_progress_113 hl rfl (inc1 _) (by decide) rfl (fun ls hl => ?_)
        refine lv_goto hx hb d_Mod_progress_116 (tgt := 12) (by decide) ?_
        exact ih12 ((k + 1), (va_up g k np)) _ _ _ ⟨(lv_sub hl [2, 3, 0] rfl), hP, hD, hS, (by omega), (up_ext hg (by rw [(hR k (by omega)).1, reS, if_neg (by omega), if_neg (by omega), reM, if_pos (by omega)]))⟩ (by (try dsimp only); omega)
  · refine lv_iconst hx hb d_Mod_progress_8 ci_m1 ?_
    exact mm_irQ hx hb hr hk hS d_Mod_progress_9 ⟨⟨_, hP⟩, (if_neg (by rw [c5]; decide)).symm⟩
set_option maxHeartbeats 4000000 in
set_option maxRecDepth 100000 in
theorem c_Mod_isKnown (l : Launch) (G : mm_G) (o : Nat) (ad : Nat → Nat) (nf : Nat) (wt : Bool) (np : Nat) (kK kW kF kS kL kE tm pr ga : Nat → Nat) (ho : Nat → Int64) (pa : Nat → Bool) (fr rg re : Nat → Nat) {A : Nat → Prop} (hD : va_D A (TW G o ad nf wt np kK kW kF kS kL kE tm pr ga ho pa fr rg re)) (RE : Nat → Nat) (hF : WF nf kK kW kF kS kL kE) (hT : TL np tm) (hR : RP nf kK kF kS kE tm np RE) (f i : Int32) : Met l y_Mod_isKnown [.code y_Mod_isKnown b_Mod_isKnown 3 (some .boolean)] { frames := 2, cells := 0, slots := 0, locals := 49 } (mm_Pre G [.ref o, .int f, .int i] (fun H => va_P G.1 cls_all (TW G o ad nf wt np kK kW kF kS kL kE tm pr ga ho pa fr rg re) H)) (mm_Qi (fun r H => (∃ re9, va_P G.1 cls_all (TW G o ad nf wt np kK kW kF kS kL kE tm pr ga ho pa fr rg re9) H) ∧ r = bI (knB f i nf RE)) A) 0 0 A := by
  refine mm_of (by decide) (Nat.le_of_ble_eq_true rfl) ?_
  intro p e s m below meth c ls hx hb hr hk hml hown hnm hK hP hl
  have hl : lv_has ls 3 [(0, .ref o), (1, .int f), (2, .int i)] := hl
  have hS : va_S A s.heap s.heap [] := va_S.rf
  have hn := hF.1
  have hq := hT.1
  refine lv_aload_n hx hb d_Mod_isKnown_0 rfl (lv_at hl 0 rfl) ?_
  refine lv_iload_n hx hb d_Mod_isKnown_1 rfl (lv_at hl 1 rfl) ?_
  refine mm_si (mm_runV hK ⟨hx, hb, hml, hown⟩ lk_Mod_75 (c_Mod_isFormula l G o ad nf wt np kK kW kF kS kL kE tm pr ga ho pa fr rg re f hn) ⟨rfl, rfl, by decide, by decide⟩ (mm_rc hK hP 0 rfl rfl) hP rfl hl.1 rfl (Nat.le_of_ble_eq_true rfl) ⟨by decide, by decide⟩ d_Mod_isKnown_2) (fun r2 e2 => ?_)
  subst e2
  refine mm_ifeqB hx hb d_Mod_isKnown_5 (tgt := 25) (by decide) (fun c5 => ?_) (fun c5 => ?_)
  · refine lv_iconst hx hb d_Mod_isKnown_25 ci_0 ?_
    exact mm_zrQ false (by first | rfl | decide) hx hb hr hk hS d_Mod_isKnown_26 ⟨⟨_, hP⟩, by unfold knB; rw [c5]; rfl⟩
  · refine lv_iload_n hx hb d_Mod_isKnown_8 rfl (lv_at hl 2 rfl) ?_
    refine lv_if_lt hx hb d_Mod_isKnown_9 (tgt := 25) (by decide) (fun c9 => ?_) (fun c9 => ?_)
    · rw [Int32.lt_iff_toInt_lt, Int32.toInt_zero] at c9
      refine lv_iconst hx hb d_Mod_isKnown_25 ci_0 ?_
      exact mm_zrQ false (by first | rfl | decide) hx hb hr hk hS d_Mod_isKnown_26 ⟨⟨_, hP⟩, by unfold knB; rw [c5, decide_eq_false (by omega)]; rfl⟩
    · rw [Int32.lt_iff_toInt_lt, Int32.toInt_zero] at c9
      obtain ⟨x1, ex, y1⟩ := fm_of c5
      have u1 := (hR x1 y1).2
      have ecx : cN f = x1 := by rw [ex]; exact cN_nI (by omega)
      refine lv_iload_n hx hb d_Mod_isKnown_12 rfl (lv_at hl 2 rfl) ?_
      refine lv_aload_n hx hb d_Mod_isKnown_13 rfl (lv_at hl 0 rfl) ?_
      refine lv_iload_n hx hb d_Mod_isKnown_14 rfl (lv_at hl 1 rfl) ?_
      refine mm_qi (mm_runV hK ⟨hx, hb, hml, hown⟩ lk_Mod_136 (c_Mod_progress l G o ad nf wt np kK kW kF kS kL kE tm pr ga ho pa fr rg re hD RE hF hT hR f) ⟨rfl, rfl, by decide, by decide⟩ (mm_rc hK hP 0 rfl rfl) hP rfl hl.1 rfl (Nat.le_of_ble_eq_true rfl) ⟨by decide, by decide⟩ d_Mod_isKnown_15) hS (fun q h => h) (fun r15 H locs e15 hz1 hk1 hS => ?_)
      obtain ⟨⟨re15, hP⟩, rfl⟩ := e15
      have hD : va_D A (TW G o ad nf wt np kK kW kF kS kL kE tm pr ga ho pa fr rg re15) := mD hD rfl
      refine mm_ti (y := nI (RE (cN f))) (if_pos c5) ?_
      have u2 : RE (cN f) ≤ np := by rw [ecx]; exact u1
      refine lv_icmp_ge hx hb d_Mod_isKnown_18 (tgt := 25) (by decide) (fun c18 => ?_) (fun c18 => ?_)
      · rw [Int32.le_iff_toInt_le, nI_toInt (n := RE (cN f)) (by omega)] at c18
        refine lv_iconst hx hb d_Mod_isKnown_25 ci_0 ?_
        exact mm_zrQ false (by first | rfl | decide) hx hb hr hk hS d_Mod_isKnown_26 ⟨⟨_, hP⟩, by unfold knB; rw [c5, decide_eq_false (by omega)]; rfl⟩
      · rw [Int32.le_iff_toInt_le, nI_toInt (n := RE (cN f)) (by omega)] at c18
        refine lv_iconst hx hb d_Mod_isKnown_21 ci_1 ?_
        refine lv_goto hx hb d_Mod_isKnown_22 (tgt := 26) (by decide) ?_
        exact mm_zrQ true (by first | rfl | decide) hx hb hr hk hS d_Mod_isKnown_26 ⟨⟨_, hP⟩, by unfold knB; rw [c5, decide_eq_true ⟨by omega, by omega⟩]; rfl⟩
set_option maxHeartbeats 4000000 in
set_option maxRecDepth 100000 in
theorem c_Mod_satisfied (l : Launch) (G : mm_G) (o : Nat) (ad : Nat → Nat) (nf : Nat) (wt : Bool) (np : Nat) (kK kW kF kS kL kE tm pr ga : Nat → Nat) (ho : Nat → Int64) (pa : Nat → Bool) (fr rg re : Nat → Nat) {A : Nat → Prop} (hD : va_D A (TW G o ad nf wt np kK kW kF kS kL kE tm pr ga ho pa fr rg re)) (RE : Nat → Nat) (hF : WF nf kK kW kF kS kL kE) (hT : TL np tm) (hR : RP nf kK kF kS kE tm np RE) (f i : Int32) : Met l y_Mod_satisfied [.code y_Mod_satisfied b_Mod_satisfied 3 (some .long)] { frames := 3, cells := 0, slots := 0, locals := 71 } (mm_Pre G [.ref o, .int f, .int i] (fun H => va_P G.1 cls_all (TW G o ad nf wt np kK kW kF kS kL kE tm pr ga ho pa fr rg re) H)) (mm_Ql (fun r H => (∃ re9, va_P G.1 cls_all (TW G o ad nf wt np kK kW kF kS kL kE tm pr ga ho pa fr rg re9) H) ∧ r = (if knB f i nf RE = true then ho (24 * cN f + cN i) else 0)) A) 0 0 A := by
  refine mm_of (by decide) (Nat.le_of_ble_eq_true rfl) ?_
  intro p e s m below meth c ls hx hb hr hk hml hown hnm hK hP hl
  have hl : lv_has ls 3 [(0, .ref o), (1, .int f), (2, .int i)] := hl
  have hS : va_S A s.heap s.heap [] := va_S.rf
  have hn := hF.1
  have hq := hT.1
  refine lv_aload_n hx hb d_Mod_satisfied_0 rfl (lv_at hl 0 rfl) ?_
  refine lv_iload_n hx hb d_Mod_satisfied_1 rfl (lv_at hl 1 rfl) ?_
  refine lv_iload_n hx hb d_Mod_satisfied_2 rfl (lv_at hl 2 rfl) ?_
  refine mm_qi (mm_runV hK ⟨hx, hb, hml, hown⟩ lk_Mod_139 (c_Mod_isKnown l G o ad nf wt np kK kW kF kS kL kE tm pr ga ho pa fr rg re hD RE hF hT hR f i) ⟨rfl, rfl, by decide, by decide⟩ (mm_rc hK hP 0 rfl rfl) hP rfl hl.1 rfl (Nat.le_of_ble_eq_true rfl) ⟨by decide, by decide⟩ d_Mod_satisfied_3) hS (fun q h => h) (fun r3 H locs e3 hz1 hk1 hS => ?_)
  obtain ⟨⟨re3, hP⟩, rfl⟩ := e3
  have hD : va_D A (TW G o ad nf wt np kK kW kF kS kL kE tm pr ga ho pa fr rg re3) := mD hD rfl
  refine mm_ifeqB hx hb d_Mod_satisfied_6 (tgt := 23) (by decide) (fun c6 => ?_) (fun c6 => ?_)
  · refine lv_lconst (v := 0) hx hb d_Mod_satisfied_23 (by decide) ?_
    exact mm_lrQ hx hb hr hk hS d_Mod_satisfied_24 ⟨⟨_, hP⟩, (if_neg (by rw [c6]; decide)).symm⟩
  · obtain ⟨x1, x2, rfl, rfl, y1, y2⟩ := kn_of c6
    have u1 := (hR x1 y1).2
    have y3 := y2 hn
    refine lv_aload_n hx hb d_Mod_satisfied_9 rfl (lv_at hl 0 rfl) ?_
    refine mm_get (v := .ref (ad 9)) hK hx hb hown lg_Mod_37 hP 0 rfl rfl d_Mod_satisfied_10 ?_
    refine lv_bipush (v := nI 24) hx hb d_Mod_satisfied_13 (by decide) ?_
    refine lv_iload_n hx hb d_Mod_satisfied_15 rfl (lv_at hl 1 rfl) ?_
    refine lv_imul hx hb d_Mod_satisfied_16 ?_
    refine mm_ti (pk_mul _ _) ?_
    refine lv_iload_n hx hb d_Mod_satisfied_17 rfl (lv_at hl 2 rfl) ?_
    refine lv_iadd hx hb d_Mod_satisfied_18 ?_
    refine mm_ti (nI_add _ _) ?_
    refine mm_lald hK hx hb hP 10 rfl (by decide) (i := (24 * x1) + x2) (by omega) d_Mod_satisfied_19 ?_
    refine lv_goto hx hb d_Mod_satisfied_20 (tgt := 24) (by decide) ?_
    exact mm_lrQ hx hb hr hk hS d_Mod_satisfied_24 ⟨⟨_, hP⟩, by rw [if_pos c6, cN_nI (by omega), cN_nI (by omega)]⟩
set_option maxHeartbeats 4000000 in
set_option maxRecDepth 100000 in
theorem c_Mod_agree (l : Launch) (G : mm_G) (n n2 z : Nat) (hn : n < 64) (hn2 : n2 < 64) (hz : z < 8) : Met l y_Mod_agree [.code y_Mod_agree b_Mod_agree 5 (some .boolean)] { frames := 1, cells := 0, slots := 0, locals := 21 } (mm_Pre G [.int (nI n), .int (nI n2), .int (nI z)] (fun H => True)) (vp_Si (fun r => r = bI (agR n n2 z 3))) 0 0 (fun _ => False) := by
  refine mm_of (by decide) (Nat.le_of_ble_eq_true rfl) ?_
  intro p e s m below meth c ls hx hb hr hk hml hown hnm hK _ hl
  have hl : lv_has ls 5 [(0, .int (nI n)), (1, .int (nI n2)), (2, .int (nI z))] := hl
  refine lv_iconst hx hb d_Mod_agree_0 ci_1 ?_
  refine mm_ti (y := bI true) (by decide) ?_
  refine lv_istore_n (lv' := [(3, .int (bI true)), (0, .int (nI n)), (1, .int (nI n2)), (2, .int (nI z))]) hx hb d_Mod_agree_1 rfl hl (by decide) rfl (fun ls hl => ?_)
  refine lv_iconst hx hb d_Mod_agree_2 ci_0 ?_
  refine lv_istore (lv' := [(4, .int (nI 0)), (3, .int (bI true)), (0, .int (nI n)), (1, .int (nI n2)), (2, .int (nI z))]) hx hb d_Mod_agree_3 hl (by decide) rfl (fun ls hl => ?_)
  refine mm_loopR (σ := (Nat) × (Bool)) (fun x ls => match x with | (v, b) => lv_has ls 5 [(0, .int (nI n)), (1, .int (nI n2)), (2, .int (nI z)), (3, .int (bI b)), (4, .int (nI v))] ∧ (v ≤ 3) ∧ (b = agR n n2 z v)) (fun x => match x with | (v, b) => 3 - v) ?_ (0, true) _ ⟨(lv_sub hl [2, 3, 4, 1, 0] rfl), (by omega), rfl⟩
  rintro ⟨v, b⟩ ls ⟨hl, hv, hb9⟩ ih5
  refine lv_iload hx hb d_Mod_agree_5 (lv_at hl 4 rfl) ?_
  refine lv_iconst hx hb d_Mod_agree_7 ci_3 ?_
  refine lv_icmp_ge hx hb d_Mod_agree_8 (tgt := 51) (by decide) (fun c8 => ?_) (fun c8 => ?_)
  · have c8 : v ≥ 3 := nb_get (by omega) (by omega) c8
    refine lv_iload_n hx hb d_Mod_agree_51 rfl (lv_at hl 3 rfl) ?_
    exact mm_zrS b (by first | rfl | decide) hx hb hr hk d_Mod_agree_52 (by rw [hb9, show v = 3 by omega])
  · have c8 : v < 3 := nb_gef (by omega) (by omega) c8
    refine lv_iload_n hx hb d_Mod_agree_11 rfl (lv_at hl 3 rfl) ?_
    refine mm_ifeqB hx hb d_Mod_agree_12 (tgt := 43) (by decide) (fun c12 => ?_) (fun c12 => ?_)
    · refine lv_iconst hx hb d_Mod_agree_43 ci_0 ?_
      refine mm_ti (y := bI false) (by decide) ?_
      refine lv_istore_n (lv' := [(3, .int (bI false)), (0, .int (nI n)), (1, .int (nI n2)), (2, .int (nI z)), (4, .int (nI v))]) hx hb d_Mod_agree_44 rfl hl (by decide) rfl (fun ls hl => ?_)
      refine lv_iinc (k := 4) (v := nI (v + 1)) (lv' := [(4, .int (nI (v + 1))), (3, .int (bI false)), (0, .int (nI n)), (1, .int (nI n2)), (2, .int (nI z))]) hx hb d_Mod_agree_45 hl rfl (inc1 _) (by decide) rfl (fun ls hl => ?_)
      refine lv_goto hx hb d_Mod_agree_48 (tgt := 5) (by decide) ?_
      exact ih5 ((v + 1), false) _ ⟨(lv_sub hl [2, 3, 4, 1, 0] rfl), (by omega), (by rw [agR, ← hb9, c12]; rfl)⟩ (by (try dsimp only); omega)
    · refine lv_iload_n hx hb d_Mod_agree_15 rfl (lv_at hl 2 rfl) ?_
      refine lv_iload hx hb d_Mod_agree_16 (lv_at hl 4 rfl) ?_
      refine lv_ishr hx hb d_Mod_agree_18 ?_
      refine lv_iconst hx hb d_Mod_agree_19 ci_1 ?_
      refine lv_iand hx hb d_Mod_agree_20 ?_
      refine mm_ti (y := nI (if z.testBit v = true then 1 else 0)) (bit8 _ hz _ (by omega)) ?_
      have z2 : (if z.testBit v = true then 1 else 0) < 8 := by split <;> decide
      refine lv_if_eq hx hb d_Mod_agree_21 (tgt := 39) (by decide) (fun c21 => ?_) (fun c21 => ?_)
      · have c21 : (if z.testBit v = true then 1 else 0) = 0 := nb_zeqt (by omega) c21
        refine lv_iconst hx hb d_Mod_agree_39 ci_1 ?_
        refine lv_goto hx hb d_Mod_agree_40 (tgt := 44) (by decide) ?_
        refine mm_ti (y := bI true) (by decide) ?_
        refine lv_istore_n (lv' := [(3, .int (bI true)), (0, .int (nI n)), (1, .int (nI n2)), (2, .int (nI z)), (4, .int (nI v))]) hx hb d_Mod_agree_44 rfl hl (by decide) rfl (fun ls hl => ?_)
        refine lv_iinc (k := 4) (v := nI (v + 1)) (lv' := [(4, .int (nI (v + 1))), (3, .int (bI true)), (0, .int (nI n)), (1, .int (nI n2)), (2, .int (nI z))]) hx hb d_Mod_agree_45 hl rfl (inc1 _) (by decide) rfl (fun ls hl => ?_)
        refine lv_goto hx hb d_Mod_agree_48 (tgt := 5) (by decide) ?_
        exact ih5 ((v + 1), true) _ ⟨(lv_sub hl [2, 3, 4, 1, 0] rfl), (by omega), (by rw [agR, ← hb9, c12, show z.testBit v = false by (cases hz9 : z.testBit v; rfl; (rw [hz9] at c21; cases c21))]; rfl)⟩ (by (try dsimp only); omega)
      · have c21 : (if z.testBit v = true then 1 else 0) ≠ 0 := nb_zeqf (by omega) c21
        refine lv_iload hx hb d_Mod_agree_24 (lv_at hl 4 rfl) ?_
        refine lv_iload_n hx hb d_Mod_agree_26 rfl (lv_at hl 0 rfl) ?_
        refine mm_si (mm_runS hK ⟨hx, hb, hml, hown⟩ lk_Mod_114 (c_Mod_value l G v n (by omega) (by omega) (by omega)) ⟨rfl, rfl, by decide, by decide⟩ trivial rfl hl.1 rfl (Nat.le_of_ble_eq_true rfl) ⟨by decide, by decide⟩ d_Mod_agree_27) (fun r27 e27 => ?_)
        subst e27
        refine lv_iload hx hb d_Mod_agree_30 (lv_at hl 4 rfl) ?_
        refine lv_iload_n hx hb d_Mod_agree_32 rfl (lv_at hl 1 rfl) ?_
        refine mm_si (mm_runS hK ⟨hx, hb, hml, hown⟩ lk_Mod_114 (c_Mod_value l G v n2 (by omega) (by omega) (by omega)) ⟨rfl, rfl, by decide, by decide⟩ trivial rfl hl.1 rfl (Nat.le_of_ble_eq_true rfl) ⟨by decide, by decide⟩ d_Mod_agree_33) (fun r33 e33 => ?_)
        subst e33
        have z3 := vl4 (t := v) (n := n) (by omega)
        have z4 := vl4 (t := v) (n := n2) (by omega)
        refine lv_icmp_ne hx hb d_Mod_agree_36 (tgt := 43) (by decide) (fun c36 => ?_) (fun c36 => ?_)
        · have c36 : vlN v n ≠ vlN v n2 := nb_net (by omega) (by omega) c36
          refine lv_iconst hx hb d_Mod_agree_43 ci_0 ?_
          refine mm_ti (y := bI false) (by decide) ?_
          refine lv_istore_n (lv' := [(3, .int (bI false)), (0, .int (nI n)), (1, .int (nI n2)), (2, .int (nI z)), (4, .int (nI v))]) hx hb d_Mod_agree_44 rfl hl (by decide) rfl (fun ls hl => ?_)
          refine lv_iinc (k := 4) (v := nI (v + 1)) (lv' := [(4, .int (nI (v + 1))), (3, .int (bI false)), (0, .int (nI n)), (1, .int (nI n2)), (2, .int (nI z))]) hx hb d_Mod_agree_45 hl rfl (inc1 _) (by decide) rfl (fun ls hl => ?_)
          refine lv_goto hx hb d_Mod_agree_48 (tgt := 5) (by decide) ?_
          exact ih5 ((v + 1), false) _ ⟨(lv_sub hl [2, 3, 4, 1, 0] rfl), (by omega), (by rw [agR, ← hb9, c12, show z.testBit v = true by (cases hz9 : z.testBit v; (rw [hz9] at c21; exact absurd rfl c21); rfl), decide_eq_false c36]; rfl)⟩ (by (try dsimp only); omega)
        · have c36 : vlN v n = vlN v n2 := nb_nef (by omega) (by omega) c36
          refine lv_iconst hx hb d_Mod_agree_39 ci_1 ?_
          refine lv_goto hx hb d_Mod_agree_40 (tgt := 44) (by decide) ?_
          refine mm_ti (y := bI true) (by decide) ?_
          refine lv_istore_n (lv' := [(3, .int (bI true)), (0, .int (nI n)), (1, .int (nI n2)), (2, .int (nI z)), (4, .int (nI v))]) hx hb d_Mod_agree_44 rfl hl (by decide) rfl (fun ls hl => ?_)
          refine lv_iinc (k := 4) (v := nI (v + 1)) (lv' := [(4, .int (nI (v + 1))), (3, .int (bI true)), (0, .int (nI n)), (1, .int (nI n2)), (2, .int (nI z))]) hx hb d_Mod_agree_45 hl rfl (inc1 _) (by decide) rfl (fun ls hl => ?_)
          refine lv_goto hx hb d_Mod_agree_48 (tgt := 5) (by decide) ?_
          exact ih5 ((v + 1), true) _ ⟨(lv_sub hl [2, 3, 4, 1, 0] rfl), (by omega), (by rw [agR, ← hb9, c12, show z.testBit v = true by (cases hz9 : z.testBit v; (rw [hz9] at c21; exact absurd rfl c21); rfl), decide_eq_true c36]; rfl)⟩ (by (try dsimp only); omega)
set_option maxHeartbeats 4000000 in
set_option maxRecDepth 100000 in
theorem c_Mod_rows (l : Launch) (G : mm_G) (o : Nat) (ad : Nat → Nat) (nf : Nat) (wt : Bool) (np : Nat) (kK kW kF kS kL kE tm pr ga : Nat → Nat) (ho : Nat → Int64) (pa : Nat → Bool) (fr rg re : Nat → Nat) {A : Nat → Prop} (hD : va_D A (TW G o ad nf wt np kK kW kF kS kL kE tm pr ga ho pa fr rg re)) (FR RG : Nat → Nat) (CL : Nat → Bool) (hF : WF nf kK kW kF kS kL kE) (hG : SG nf kK kW kF kS FR RG CL) (RE : Nat → Nat) (hT : TL np tm) (hR : RP nf kK kF kS kE tm np RE) (f i : Int32) : Met l y_Mod_rows [.code y_Mod_rows b_Mod_rows 8 (some .int)] { frames := 3, cells := 0, slots := 0, locals := 71 } (mm_Pre G [.ref o, .int f, .int i] (fun H => va_P G.1 cls_all (TW G o ad nf wt np kK kW kF kS kL kE tm pr ga ho pa fr rg re) H)) (mm_Qi (fun r H => (∃ fr9 re9, va_P G.1 cls_all (TW G o ad nf wt np kK kW kF kS kL kE tm pr ga ho pa fr9 rg re9) H) ∧ r = (if knB f i nf RE = true then nI (cnR (ho (24 * cN f + cN i)) (FR (cN f)) 64) else -1)) A) 0 0 A := by
  refine mm_of (by decide) (Nat.le_of_ble_eq_true rfl) ?_
  intro p e s m below meth c ls hx hb hr hk hml hown hnm hK hP hl
  have hl : lv_has ls 8 [(0, .ref o), (1, .int f), (2, .int i)] := hl
  have hS : va_S A s.heap s.heap [] := va_S.rf
  have hn := hF.1
  have hq := hT.1
  refine lv_aload_n hx hb d_Mod_rows_0 rfl (lv_at hl 0 rfl) ?_
  refine lv_iload_n hx hb d_Mod_rows_1 rfl (lv_at hl 1 rfl) ?_
  refine lv_iload_n hx hb d_Mod_rows_2 rfl (lv_at hl 2 rfl) ?_
  refine mm_qi (mm_runV hK ⟨hx, hb, hml, hown⟩ lk_Mod_139 (c_Mod_isKnown l G o ad nf wt np kK kW kF kS kL kE tm pr ga ho pa fr rg re hD RE hF hT hR f i) ⟨rfl, rfl, by decide, by decide⟩ (mm_rc hK hP 0 rfl rfl) hP rfl hl.1 rfl (Nat.le_of_ble_eq_true rfl) ⟨by decide, by decide⟩ d_Mod_rows_3) hS (fun q h => h) (fun r3 H locs e3 hz1 hk1 hS => ?_)
  obtain ⟨⟨re3, hP⟩, rfl⟩ := e3
  have hD : va_D A (TW G o ad nf wt np kK kW kF kS kL kE tm pr ga ho pa fr rg re3) := mD hD rfl
  refine mm_ifneB hx hb d_Mod_rows_6 (tgt := 11) (by decide) (fun c6 => ?_) (fun c6 => ?_)
  · obtain ⟨x1, x2, rfl, rfl, y1, y2⟩ := kn_of c6
    have u1 := (hR x1 y1).2
    have y3 := y2 hn
    have hfr := (hG x1 y1).2.1
    refine lv_aload_n hx hb d_Mod_rows_11 rfl (lv_at hl 0 rfl) ?_
    refine lv_iload_n hx hb d_Mod_rows_12 rfl (lv_at hl 1 rfl) ?_
    refine mm_qi (mm_runV hK ⟨hx, hb, hml, hown⟩ lk_Mod_142 (c_Mod_free l G o ad nf wt np kK kW kF kS kL kE tm pr ga ho pa fr rg re3 hD FR RG CL hF hG (nI x1)) ⟨rfl, rfl, by decide, by decide⟩ (mm_rc hK hP 0 rfl rfl) hP rfl hl.1 rfl (Nat.le_of_ble_eq_true rfl) ⟨by decide, by decide⟩ d_Mod_rows_13) hS (fun q h => h) (fun r13 H locs e13 hz1 hk1 hS => ?_)
    obtain ⟨⟨fr13, hP⟩, rfl⟩ := e13
    have hD : va_D A (TW G o ad nf wt np kK kW kF kS kL kE tm pr ga ho pa fr13 rg re3) := mD hD rfl
    refine mm_ti (y := nI (FR x1)) (by rw [if_pos (kn_fm c6), cN_nI (by omega)]) ?_
    refine lv_istore_n (lv' := [(3, .int (nI (FR x1))), (0, .ref o), (1, .int (nI x1)), (2, .int (nI x2))]) hx hb d_Mod_rows_16 rfl hl (by decide) rfl (fun ls hl => ?_)
    refine lv_iconst hx hb d_Mod_rows_17 ci_0 ?_
    refine lv_istore (lv' := [(4, .int (nI 0)), (3, .int (nI (FR x1))), (0, .ref o), (1, .int (nI x1)), (2, .int (nI x2))]) hx hb d_Mod_rows_18 hl (by decide) rfl (fun ls hl => ?_)
    refine lv_iconst hx hb d_Mod_rows_20 ci_0 ?_
    refine lv_istore (lv' := [(5, .int (nI 0)), (4, .int (nI 0)), (3, .int (nI (FR x1))), (0, .ref o), (1, .int (nI x1)), (2, .int (nI x2))]) hx hb d_Mod_rows_21 hl (by decide) rfl (fun ls hl => ?_)
    refine mm_loop (σ := (Nat) × (Nat)) (fun x ls H locs => match x with | (n, d9) => lv_has ls 8 [(0, .ref o), (1, .int (nI x1)), (2, .int (nI x2)), (3, .int (nI (FR x1))), (4, .int (nI d9)), (5, .int (nI n))] ∧ va_P G.1 cls_all (TW G o ad nf wt np kK kW kF kS kL kE tm pr ga ho pa fr13 rg re3) H ∧ va_D A (TW G o ad nf wt np kK kW kF kS kL kE tm pr ga ho pa fr13 rg re3) ∧ va_S A s.heap H locs ∧ (n ≤ 64) ∧ (d9 = cnR (ho (24 * x1 + x2)) (FR x1) n) ∧ (d9 ≤ n)) (fun x => match x with | (n, d9) => 64 - n) ?_ (0, 0) _ _ _ ⟨(lv_sub hl [3, 4, 5, 2, 1, 0] rfl), hP, hD, hS, (by omega), rfl, (Nat.le_refl _)⟩
    rintro ⟨n, d9⟩ ls H locs ⟨hl, hP, hD, hS, hn9, hd, hd2⟩ ih23
    refine lv_iload hx hb d_Mod_rows_23 (lv_at hl 5 rfl) ?_
    refine lv_bipush (v := nI 64) hx hb d_Mod_rows_25 (by decide) ?_
    refine lv_icmp_ge hx hb d_Mod_rows_27 (tgt := 112) (by decide) (fun c27 => ?_) (fun c27 => ?_)
    · have c27 : n ≥ 64 := nb_get (by omega) (by omega) c27
      refine lv_iload hx hb d_Mod_rows_112 (lv_at hl 4 rfl) ?_
      exact mm_irQ hx hb hr hk hS d_Mod_rows_114 ⟨⟨_, _, hP⟩, by rw [if_pos c6, cN_nI (by omega), cN_nI (by omega), hd, show n = 64 by omega]⟩
    · have c27 : n < 64 := nb_gef (by omega) (by omega) c27
      refine lv_aload_n hx hb d_Mod_rows_30 rfl (lv_at hl 0 rfl) ?_
      refine lv_iload_n hx hb d_Mod_rows_31 rfl (lv_at hl 1 rfl) ?_
      refine lv_iload_n hx hb d_Mod_rows_32 rfl (lv_at hl 2 rfl) ?_
      refine lv_iload hx hb d_Mod_rows_33 (lv_at hl 5 rfl) ?_
      refine mm_si (mm_runV hK ⟨hx, hb, hml, hown⟩ lk_Mod_110 (c_Mod_at l G o ad nf wt np kK kW kF kS kL kE tm pr ga ho pa fr13 rg re3 x1 x2 n (by omega) (by omega) (by omega)) ⟨rfl, rfl, by decide, by decide⟩ (mm_rc hK hP 0 rfl rfl) hP rfl hl.1 rfl (Nat.le_of_ble_eq_true rfl) ⟨by decide, by decide⟩ d_Mod_rows_35) (fun r35 e35 => ?_)
      subst e35
      refine lv_istore (lv' := [(6, .int (bI (tb (ho (24 * x1 + x2)) n))), (0, .ref o), (1, .int (nI x1)), (2, .int (nI x2)), (3, .int (nI (FR x1))), (4, .int (nI d9)), (5, .int (nI n))]) hx hb d_Mod_rows_38 hl (by decide) rfl (fun ls hl => ?_)
      refine lv_iconst hx hb d_Mod_rows_40 ci_0 ?_
      refine lv_istore (lv' := [(7, .int (nI 0)), (6, .int (bI (tb (ho (24 * x1 + x2)) n))), (0, .ref o), (1, .int (nI x1)), (2, .int (nI x2)), (3, .int (nI (FR x1))), (4, .int (nI d9)), (5, .int (nI n))]) hx hb d_Mod_rows_41 hl (by decide) rfl (fun ls hl => ?_)
      refine mm_loop (σ := (Nat) × (Bool)) (fun x ls H locs => match x with | (k, b9) => lv_has ls 8 [(0, .ref o), (1, .int (nI x1)), (2, .int (nI x2)), (3, .int (nI (FR x1))), (4, .int (nI d9)), (5, .int (nI n)), (6, .int (bI b9)), (7, .int (nI k))] ∧ va_P G.1 cls_all (TW G o ad nf wt np kK kW kF kS kL kE tm pr ga ho pa fr13 rg re3) H ∧ va_D A (TW G o ad nf wt np kK kW kF kS kL kE tm pr ga ho pa fr13 rg re3) ∧ va_S A s.heap H locs ∧ (k ≤ n) ∧ (b9 = fiR (ho (24 * x1 + x2)) (FR x1) n k)) (fun x => match x with | (k, b9) => n - k) ?_ (0, (tb (ho (24 * x1 + x2)) n)) _ _ _ ⟨(lv_sub hl [2, 3, 4, 5, 6, 7, 1, 0] rfl), hP, hD, hS, (Nat.zero_le _), rfl⟩
      rintro ⟨k, b9⟩ ls H locs ⟨hl, hP, hD, hS, hk9, hb9⟩ ih43
      refine lv_iload hx hb d_Mod_rows_43 (lv_at hl 7 rfl) ?_
      refine lv_iload hx hb d_Mod_rows_45 (lv_at hl 5 rfl) ?_
      refine lv_icmp_ge hx hb d_Mod_rows_47 (tgt := 90) (by decide) (fun c47 => ?_) (fun c47 => ?_)
      · have c47 : k ≥ n := nb_get (by omega) (by omega) c47
        refine lv_iload hx hb d_Mod_rows_90 (lv_at hl 6 rfl) ?_
        refine mm_ifeqB hx hb d_Mod_rows_92 (tgt := 102) (by decide) (fun c92 => ?_) (fun c92 => ?_)
        · refine lv_iload hx hb d_Mod_rows_102 (lv_at hl 4 rfl) ?_
          refine lv_istore (lv' := [(4, .int (nI d9)), (0, .ref o), (1, .int (nI x1)), (2, .int (nI x2)), (3, .int (nI (FR x1))), (5, .int (nI n)), (6, .int (bI b9)), (7, .int (nI k))]) hx hb d_Mod_rows_104 hl (by decide) rfl (fun ls hl => ?_)
          refine lv_iinc (k := 5) (v := nI (n + 1)) (lv' := [(5, .int (nI (n + 1))), (4, .int (nI d9)), (0, .ref o), (1, .int (nI x1)), (2, .int (nI x2)), (3, .int (nI (FR x1))), (6, .int (bI b9)), (7, .int (nI k))]) hx hb d_Mod_rows_106 hl rfl (inc1 _) (by decide) rfl (fun ls hl => ?_)
          refine lv_goto hx hb d_Mod_rows_109 (tgt := 23) (by decide) ?_
          exact ih23 ((n + 1), d9) _ _ _ ⟨(lv_sub hl [2, 3, 4, 5, 1, 0] rfl), hP, hD, hS, (by omega), (by rw [cnR, hd]; exact (if_neg (by rw [← (show b9 = fiR (ho (24 * x1 + x2)) (FR x1) n n from by rw [hb9, show k = n by omega]), c92]; decide)).symm), (by omega)⟩ (by (try dsimp only); omega)
        · refine lv_iload hx hb d_Mod_rows_95 (lv_at hl 4 rfl) ?_
          refine lv_iconst hx hb d_Mod_rows_97 ci_1 ?_
          refine lv_iadd hx hb d_Mod_rows_98 ?_
          refine mm_ti (nI_add _ _) ?_
          refine lv_goto hx hb d_Mod_rows_99 (tgt := 104) (by decide) ?_
          refine lv_istore (lv' := [(4, .int (nI (d9 + 1))), (0, .ref o), (1, .int (nI x1)), (2, .int (nI x2)), (3, .int (nI (FR x1))), (5, .int (nI n)), (6, .int (bI b9)), (7, .int (nI k))]) hx hb d_Mod_rows_104 hl (by decide) rfl (fun ls hl => ?_)
          refine lv_iinc (k := 5) (v := nI (n + 1)) (lv' := [(5, .int (nI (n + 1))), (4, .int (nI (d9 + 1))), (0, .ref o), (1, .int (nI x1)), (2, .int (nI x2)), (3, .int (nI (FR x1))), (6, .int (bI b9)), (7, .int (nI k))]) hx hb d_Mod_rows_106 hl rfl (inc1 _) (by decide) rfl (fun ls hl => ?_)
          refine lv_goto hx hb d_Mod_rows_109 (tgt := 23) (by decide) ?_
          exact ih23 ((n + 1), (d9 + 1)) _ _ _ ⟨(lv_sub hl [2, 3, 4, 5, 1, 0] rfl), hP, hD, hS, (by omega), (by rw [cnR, hd]; exact (if_pos (by rw [← (show b9 = fiR (ho (24 * x1 + x2)) (FR x1) n n from by rw [hb9, show k = n by omega]), c92])).symm), (by omega)⟩ (by (try dsimp only); omega)
      · have c47 : k < n := nb_gef (by omega) (by omega) c47
        refine lv_iload hx hb d_Mod_rows_50 (lv_at hl 6 rfl) ?_
        refine mm_ifeqB hx hb d_Mod_rows_52 (tgt := 81) (by decide) (fun c52 => ?_) (fun c52 => ?_)
        · refine lv_iconst hx hb d_Mod_rows_81 ci_0 ?_
          refine mm_ti (y := bI false) (by decide) ?_
          refine lv_istore (lv' := [(6, .int (bI false)), (0, .ref o), (1, .int (nI x1)), (2, .int (nI x2)), (3, .int (nI (FR x1))), (4, .int (nI d9)), (5, .int (nI n)), (7, .int (nI k))]) hx hb d_Mod_rows_82 hl (by decide) rfl (fun ls hl => ?_)
          refine lv_iinc (k := 7) (v := nI (k + 1)) (lv' := [(7, .int (nI (k + 1))), (6, .int (bI false)), (0, .ref o), (1, .int (nI x1)), (2, .int (nI x2)), (3, .int (nI (FR x1))), (4, .int (nI d9)), (5, .int (nI n))]) hx hb d_Mod_rows_84 hl rfl (inc1 _) (by decide) rfl (fun ls hl => ?_)
          refine lv_goto hx hb d_Mod_rows_87 (tgt := 43) (by decide) ?_
          exact ih43 ((k + 1), false) _ _ _ ⟨(lv_sub hl [2, 3, 4, 5, 6, 7, 1, 0] rfl), hP, hD, hS, (by omega), (by rw [fiR, ← hb9, c52]; rfl)⟩ (by (try dsimp only); omega)
        · refine lv_aload_n hx hb d_Mod_rows_55 rfl (lv_at hl 0 rfl) ?_
          refine lv_iload_n hx hb d_Mod_rows_56 rfl (lv_at hl 1 rfl) ?_
          refine lv_iload_n hx hb d_Mod_rows_57 rfl (lv_at hl 2 rfl) ?_
          refine lv_iload hx hb d_Mod_rows_58 (lv_at hl 7 rfl) ?_
          refine mm_si (mm_runV hK ⟨hx, hb, hml, hown⟩ lk_Mod_110 (c_Mod_at l G o ad nf wt np kK kW kF kS kL kE tm pr ga ho pa fr13 rg re3 x1 x2 k (by omega) (by omega) (by omega)) ⟨rfl, rfl, by decide, by decide⟩ (mm_rc hK hP 0 rfl rfl) hP rfl hl.1 rfl (Nat.le_of_ble_eq_true rfl) ⟨by decide, by decide⟩ d_Mod_rows_60) (fun r60 e60 => ?_)
          subst e60
          refine mm_ifeqB hx hb d_Mod_rows_63 (tgt := 77) (by decide) (fun c63 => ?_) (fun c63 => ?_)
          · refine lv_iconst hx hb d_Mod_rows_77 ci_1 ?_
            refine lv_goto hx hb d_Mod_rows_78 (tgt := 82) (by decide) ?_
            refine mm_ti (y := bI true) (by decide) ?_
            refine lv_istore (lv' := [(6, .int (bI true)), (0, .ref o), (1, .int (nI x1)), (2, .int (nI x2)), (3, .int (nI (FR x1))), (4, .int (nI d9)), (5, .int (nI n)), (7, .int (nI k))]) hx hb d_Mod_rows_82 hl (by decide) rfl (fun ls hl => ?_)
            refine lv_iinc (k := 7) (v := nI (k + 1)) (lv' := [(7, .int (nI (k + 1))), (6, .int (bI true)), (0, .ref o), (1, .int (nI x1)), (2, .int (nI x2)), (3, .int (nI (FR x1))), (4, .int (nI d9)), (5, .int (nI n))]) hx hb d_Mod_rows_84 hl rfl (inc1 _) (by decide) rfl (fun ls hl => ?_)
            refine lv_goto hx hb d_Mod_rows_87 (tgt := 43) (by decide) ?_
            exact ih43 ((k + 1), true) _ _ _ ⟨(lv_sub hl [2, 3, 4, 5, 6, 7, 1, 0] rfl), hP, hD, hS, (by omega), (by rw [fiR, ← hb9, c52, c63]; rfl)⟩ (by (try dsimp only); omega)
          · refine lv_iload hx hb d_Mod_rows_66 (lv_at hl 5 rfl) ?_
            refine lv_iload hx hb d_Mod_rows_68 (lv_at hl 7 rfl) ?_
            refine lv_iload_n hx hb d_Mod_rows_70 rfl (lv_at hl 3 rfl) ?_
            refine mm_si (mm_runS hK ⟨hx, hb, hml, hown⟩ lk_Mod_145 (c_Mod_agree l G n k (FR x1) (by omega) (by omega) hfr) ⟨rfl, rfl, by decide, by decide⟩ trivial rfl hl.1 rfl (Nat.le_of_ble_eq_true rfl) ⟨by decide, by decide⟩ d_Mod_rows_71) (fun r71 e71 => ?_)
            subst e71
            refine mm_ifneB hx hb d_Mod_rows_74 (tgt := 81) (by decide) (fun c74 => ?_) (fun c74 => ?_)
            · refine lv_iconst hx hb d_Mod_rows_81 ci_0 ?_
              refine mm_ti (y := bI false) (by decide) ?_
              refine lv_istore (lv' := [(6, .int (bI false)), (0, .ref o), (1, .int (nI x1)), (2, .int (nI x2)), (3, .int (nI (FR x1))), (4, .int (nI d9)), (5, .int (nI n)), (7, .int (nI k))]) hx hb d_Mod_rows_82 hl (by decide) rfl (fun ls hl => ?_)
              refine lv_iinc (k := 7) (v := nI (k + 1)) (lv' := [(7, .int (nI (k + 1))), (6, .int (bI false)), (0, .ref o), (1, .int (nI x1)), (2, .int (nI x2)), (3, .int (nI (FR x1))), (4, .int (nI d9)), (5, .int (nI n))]) hx hb d_Mod_rows_84 hl rfl (inc1 _) (by decide) rfl (fun ls hl => ?_)
              refine lv_goto hx hb d_Mod_rows_87 (tgt := 43) (by decide) ?_
              exact ih43 ((k + 1), false) _ _ _ ⟨(lv_sub hl [2, 3, 4, 5, 6, 7, 1, 0] rfl), hP, hD, hS, (by omega), (by rw [fiR, ← hb9, c52, c63, c74]; rfl)⟩ (by (try dsimp only); omega)
            · refine lv_iconst hx hb d_Mod_rows_77 ci_1 ?_
              refine lv_goto hx hb d_Mod_rows_78 (tgt := 82) (by decide) ?_
              refine mm_ti (y := bI true) (by decide) ?_
              refine lv_istore (lv' := [(6, .int (bI true)), (0, .ref o), (1, .int (nI x1)), (2, .int (nI x2)), (3, .int (nI (FR x1))), (4, .int (nI d9)), (5, .int (nI n)), (7, .int (nI k))]) hx hb d_Mod_rows_82 hl (by decide) rfl (fun ls hl => ?_)
              refine lv_iinc (k := 7) (v := nI (k + 1)) (lv' := [(7, .int (nI (k + 1))), (6, .int (bI true)), (0, .ref o), (1, .int (nI x1)), (2, .int (nI x2)), (3, .int (nI (FR x1))), (4, .int (nI d9)), (5, .int (nI n))]) hx hb d_Mod_rows_84 hl rfl (inc1 _) (by decide) rfl (fun ls hl => ?_)
              refine lv_goto hx hb d_Mod_rows_87 (tgt := 43) (by decide) ?_
              exact ih43 ((k + 1), true) _ _ _ ⟨(lv_sub hl [2, 3, 4, 5, 6, 7, 1, 0] rfl), hP, hD, hS, (by omega), (by rw [fiR, ← hb9, c52, c63, c74]; rfl)⟩ (by (try dsimp only); omega)
  · refine lv_iconst hx hb d_Mod_rows_9 ci_m1 ?_
    exact mm_irQ hx hb hr hk hS d_Mod_rows_10 ⟨⟨_, _, hP⟩, (if_neg (by rw [c6]; decide)).symm⟩
