set_option maxHeartbeats 4000000 in
set_option maxRecDepth 100000 in
theorem c_Mod_freeOf (l : Launch) (G : mm_G) (o : Nat) (ad : Nat → Nat) (nf : Nat) (wt : Bool) (np : Nat) (kK kW kF kS kL kE tm pr ga : Nat → Nat) (ho : Nat → Int64) (pa : Nat → Bool) (fr rg re : Nat → Nat) {A : Nat → Prop} (hD : va_D A (TW G o ad nf wt np kK kW kF kS kL kE tm pr ga ho pa fr rg re)) (FR RG : Nat → Nat) (CL : Nat → Bool) (hF : WF nf kK kW kF kS kL kE) (hG : SG nf kK kW kF kS FR RG CL) (f : Nat) (hf : f < nf) : Met l y_Mod_freeOf [.code y_Mod_freeOf b_Mod_freeOf 3 (some .int)] { frames := 1, cells := 0, slots := 0, locals := 20 } (mm_Pre G [.ref o, .int (nI f)] (fun H => va_P G.1 cls_all (TW G o ad nf wt np kK kW kF kS kL kE tm pr ga ho pa fr rg re) H)) (mm_Qi (fun r H => (∃ fr9, va_P G.1 cls_all (TW G o ad nf wt np kK kW kF kS kL kE tm pr ga ho pa fr9 rg re) H) ∧ r = nI (FR f)) A) 0 0 A := by
  refine mm_of (by decide) (Nat.le_of_ble_eq_true rfl) ?_
  intro p e s m below meth c ls hx hb hr hk hml hown hnm hK hP hl
  have hl : lv_has ls 3 [(0, .ref o), (1, .int (nI f))] := hl
  have hS : va_S A s.heap s.heap [] := va_S.rf
  have hn := hF.1
  refine lv_iconst hx hb d_Mod_freeOf_0 ci_0 ?_
  refine lv_istore_n (lv' := [(2, .int (nI 0)), (0, .ref o), (1, .int (nI f))]) hx hb d_Mod_freeOf_1 rfl hl (by decide) rfl (fun ls hl => ?_)
  refine mm_loop (σ := (Nat) × (Nat → Nat)) (fun x ls H locs => match x with | (k, g) => lv_has ls 3 [(0, .ref o), (1, .int (nI f)), (2, .int (nI k))] ∧ va_P G.1 cls_all (TW G o ad nf wt np kK kW kF kS kL kE tm pr ga ho pa g rg re) H ∧ va_D A (TW G o ad nf wt np kK kW kF kS kL kE tm pr ga ho pa g rg re) ∧ va_S A s.heap H locs ∧ (k ≤ f + 1) ∧ (∀ j, j < k → g j = FR j)) (fun x => match x with | (k, g) => f + 1 - k) ?_ (0, fr) _ _ _ ⟨(lv_sub hl [1, 2, 0] rfl), hP, hD, hS, (by omega), (fun j hj => absurd hj (Nat.not_lt_zero _))⟩
  rintro ⟨k, g⟩ ls H locs ⟨hl, hP, hD, hS, hk9, hg⟩ ih2
  refine lv_iload_n hx hb d_Mod_freeOf_2 rfl (lv_at hl 2 rfl) ?_
  refine lv_iload_n hx hb d_Mod_freeOf_3 rfl (lv_at hl 1 rfl) ?_
  refine lv_icmp_gt hx hb d_Mod_freeOf_4 (tgt := 114) (by decide) (fun c4 => ?_) (fun c4 => ?_)
  · have c4 : k > f := nb_gtt (by omega) (by omega) c4
    refine lv_aload_n hx hb d_Mod_freeOf_114 rfl (lv_at hl 0 rfl) ?_
    refine mm_get (v := .ref (ad 11)) hK hx hb hown lg_Mod_45 hP 0 rfl rfl d_Mod_freeOf_115 ?_
    refine lv_iload_n hx hb d_Mod_freeOf_118 rfl (lv_at hl 1 rfl) ?_
    refine mm_iald hK hx hb hP 12 rfl (by decide) (i := f) (by omega) d_Mod_freeOf_119 ?_
    refine mm_ti (y := nI (FR f)) (congrArg nI (hg _ (by omega))) ?_
    exact mm_irQ hx hb hr hk hS d_Mod_freeOf_120 ⟨⟨_, hP⟩, rfl⟩
  · have c4 : k ≤ f := nb_gtf (by omega) (by omega) c4
    obtain ⟨a1, a2, a3, a4, a5, a6⟩ := hF.2 k (by omega)
    refine lv_aload_n hx hb d_Mod_freeOf_7 rfl (lv_at hl 0 rfl) ?_
    refine mm_get (v := .ref (ad 0)) hK hx hb hown lg_Mod_7 hP 0 rfl rfl d_Mod_freeOf_8 ?_
    refine lv_iload_n hx hb d_Mod_freeOf_11 rfl (lv_at hl 2 rfl) ?_
    refine mm_iald hK hx hb hP 1 rfl (by decide) (i := k) (by omega) d_Mod_freeOf_12 ?_
    refine lv_iconst hx hb d_Mod_freeOf_13 ci_2 ?_
    refine lv_icmp_gt hx hb d_Mod_freeOf_14 (tgt := 45) (by decide) (fun c14 => ?_) (fun c14 => ?_)
    · have c14 : kK k > 2 := nb_gtt (by omega) (by omega) c14
      obtain ⟨q1, q2⟩ := a6 (by omega)
      refine lv_aload_n hx hb d_Mod_freeOf_45 rfl (lv_at hl 0 rfl) ?_
      refine mm_get (v := .ref (ad 11)) hK hx hb hown lg_Mod_45 hP 0 rfl rfl d_Mod_freeOf_46 ?_
      refine lv_iload_n hx hb d_Mod_freeOf_49 rfl (lv_at hl 2 rfl) ?_
      refine lv_aload_n hx hb d_Mod_freeOf_50 rfl (lv_at hl 0 rfl) ?_
      refine mm_get (v := .ref (ad 11)) hK hx hb hown lg_Mod_45 hP 0 rfl rfl d_Mod_freeOf_51 ?_
      refine lv_aload_n hx hb d_Mod_freeOf_54 rfl (lv_at hl 0 rfl) ?_
      refine mm_get (v := .ref (ad 2)) hK hx hb hown lg_Mod_16 hP 0 rfl rfl d_Mod_freeOf_55 ?_
      refine lv_iload_n hx hb d_Mod_freeOf_58 rfl (lv_at hl 2 rfl) ?_
      refine mm_iald hK hx hb hP 3 rfl (by decide) (i := k) (by omega) d_Mod_freeOf_59 ?_
      refine mm_iald hK hx hb hP 12 rfl (by decide) (i := kF k) (by omega) d_Mod_freeOf_60 ?_
      refine mm_ti (y := nI (FR (kF k))) (congrArg nI (hg _ q1)) ?_
      refine lv_aload_n hx hb d_Mod_freeOf_61 rfl (lv_at hl 0 rfl) ?_
      refine mm_get (v := .ref (ad 11)) hK hx hb hown lg_Mod_45 hP 0 rfl rfl d_Mod_freeOf_62 ?_
      refine lv_aload_n hx hb d_Mod_freeOf_65 rfl (lv_at hl 0 rfl) ?_
      refine mm_get (v := .ref (ad 3)) hK hx hb hown lg_Mod_19 hP 0 rfl rfl d_Mod_freeOf_66 ?_
      refine lv_iload_n hx hb d_Mod_freeOf_69 rfl (lv_at hl 2 rfl) ?_
      refine mm_iald hK hx hb hP 4 rfl (by decide) (i := k) (by omega) d_Mod_freeOf_70 ?_
      refine mm_iald hK hx hb hP 12 rfl (by decide) (i := kS k) (by omega) d_Mod_freeOf_71 ?_
      refine mm_ti (y := nI (FR (kS k))) (congrArg nI (hg _ q2)) ?_
      refine lv_ior hx hb d_Mod_freeOf_72 ?_
      refine mm_ti (y := nI (FR (kF k) ||| FR (kS k))) (or8 _ (hG _ (by omega)).2.1 _ (hG _ (by omega)).2.1) ?_
      refine mm_iastN (x := FR (kF k) ||| FR (kS k)) hK hx hb hP hD hS 12 rfl (by decide) (i := k) (by omega) d_Mod_freeOf_73 (fun H locs hP hD hS => ?_)
      have hP : va_P G.1 cls_all (TW G o ad nf wt np kK kW kF kS kL kE tm pr ga ho pa (va_up g k (FR (kF k) ||| FR (kS k))) rg re) H := hP
      have hD : va_D A (TW G o ad nf wt np kK kW kF kS kL kE tm pr ga ho pa (va_up g k (FR (kF k) ||| FR (kS k))) rg re) := hD
      refine lv_aload_n hx hb d_Mod_freeOf_74 rfl (lv_at hl 0 rfl) ?_
      refine mm_get (v := .ref (ad 0)) hK hx hb hown lg_Mod_7 hP 0 rfl rfl d_Mod_freeOf_75 ?_
      refine lv_iload_n hx hb d_Mod_freeOf_78 rfl (lv_at hl 2 rfl) ?_
      refine mm_iald hK hx hb hP 1 rfl (by decide) (i := k) (by omega) d_Mod_freeOf_79 ?_
      refine lv_bipush (v := nI 6) hx hb d_Mod_freeOf_80 (by decide) ?_
      refine lv_icmp_ne hx hb d_Mod_freeOf_82 (tgt := 108) (by decide) (fun c82 => ?_) (fun c82 => ?_)
      · have c82 : kK k ≠ 6 := nb_net (by omega) (by omega) c82
        refine lv_iinc (k := 2) (v := nI (k + 1)) (lv' := [(2, .int (nI (k + 1))), (0, .ref o), (1, .int (nI f))]) hx hb d_Mod_freeOf_108 hl rfl (inc1 _) (by decide) rfl (fun ls hl => ?_)
        refine lv_goto hx hb d_Mod_freeOf_111 (tgt := 2) (by decide) ?_
        exact ih2 ((k + 1), (va_up g k (FR (kF k) ||| FR (kS k)))) _ _ _ ⟨(lv_sub hl [1, 2, 0] rfl), hP, hD, hS, (by omega), (up_ext hg (by rw [(hG k (by omega)).1, frS_2 (by omega) c82]))⟩ (by (try dsimp only); omega)
      · have c82 : kK k = 6 := nb_nef (by omega) (by omega) c82
        refine lv_aload_n hx hb d_Mod_freeOf_85 rfl (lv_at hl 0 rfl) ?_
        refine mm_get (v := .ref (ad 11)) hK hx hb hown lg_Mod_45 hP 0 rfl rfl d_Mod_freeOf_86 ?_
        refine lv_iload_n hx hb d_Mod_freeOf_89 rfl (lv_at hl 2 rfl) ?_
        refine lv_aload_n hx hb d_Mod_freeOf_90 rfl (lv_at hl 0 rfl) ?_
        refine mm_get (v := .ref (ad 11)) hK hx hb hown lg_Mod_45 hP 0 rfl rfl d_Mod_freeOf_91 ?_
        refine lv_iload_n hx hb d_Mod_freeOf_94 rfl (lv_at hl 2 rfl) ?_
        refine mm_iald hK hx hb hP 12 rfl (by decide) (i := k) (by omega) d_Mod_freeOf_95 ?_
        refine mm_ti (y := nI (FR (kF k) ||| FR (kS k))) (congrArg nI (va_up_self _ _ _)) ?_
        refine lv_iconst hx hb d_Mod_freeOf_96 ci_1 ?_
        refine lv_aload_n hx hb d_Mod_freeOf_97 rfl (lv_at hl 0 rfl) ?_
        refine mm_get (v := .ref (ad 1)) hK hx hb hown lg_Mod_13 hP 0 rfl rfl d_Mod_freeOf_98 ?_
        refine lv_iload_n hx hb d_Mod_freeOf_101 rfl (lv_at hl 2 rfl) ?_
        refine mm_iald hK hx hb hP 2 rfl (by decide) (i := k) (by omega) d_Mod_freeOf_102 ?_
        refine lv_ishl hx hb d_Mod_freeOf_103 ?_
        refine lv_iconst hx hb d_Mod_freeOf_104 ci_m1 ?_
        refine lv_ixor hx hb d_Mod_freeOf_105 ?_
        refine lv_iand hx hb d_Mod_freeOf_106 ?_
        refine mm_ti (y := nI (clrN (FR (kF k) ||| FR (kS k)) (kW k))) (clr8 _ (or8l _ (hG _ (by omega)).2.1 _ (hG _ (by omega)).2.1) _ a2) ?_
        refine mm_iastN (x := clrN (FR (kF k) ||| FR (kS k)) (kW k)) hK hx hb hP hD hS 12 rfl (by decide) (i := k) (by omega) d_Mod_freeOf_107 (fun H locs hP hD hS => ?_)
        have hP : va_P G.1 cls_all (TW G o ad nf wt np kK kW kF kS kL kE tm pr ga ho pa (va_up (va_up g k (FR (kF k) ||| FR (kS k))) k (clrN (FR (kF k) ||| FR (kS k)) (kW k))) rg re) H := hP
        have hD : va_D A (TW G o ad nf wt np kK kW kF kS kL kE tm pr ga ho pa (va_up (va_up g k (FR (kF k) ||| FR (kS k))) k (clrN (FR (kF k) ||| FR (kS k)) (kW k))) rg re) := hD
        rw [bx_uu] at hP hD
        refine lv_iinc (k := 2) (v := nI (k + 1)) (lv' := [(2, .int (nI (k + 1))), (0, .ref o), (1, .int (nI f))]) hx hb d_Mod_freeOf_108 hl rfl (inc1 _) (by decide) rfl (fun ls hl => ?_)
        refine lv_goto hx hb d_Mod_freeOf_111 (tgt := 2) (by decide) ?_
        exact ih2 ((k + 1), (va_up g k (clrN (FR (kF k) ||| FR (kS k)) (kW k)))) _ _ _ ⟨(lv_sub hl [1, 2, 0] rfl), hP, hD, hS, (by omega), (up_ext hg (by rw [(hG k (by omega)).1, frS_3 c82]))⟩ (by (try dsimp only); omega)
    · have c14 : kK k ≤ 2 := nb_gtf (by omega) (by omega) c14
      obtain ⟨q1, q2, q3, q4⟩ := a5 (by omega)
      have z3 := vr8 (t := kF k)
      have z4 := vr8 (t := kS k)
      refine lv_aload_n hx hb d_Mod_freeOf_17 rfl (lv_at hl 0 rfl) ?_
      refine mm_get (v := .ref (ad 11)) hK hx hb hown lg_Mod_45 hP 0 rfl rfl d_Mod_freeOf_18 ?_
      refine lv_iload_n hx hb d_Mod_freeOf_21 rfl (lv_at hl 2 rfl) ?_
      refine lv_aload_n hx hb d_Mod_freeOf_22 rfl (lv_at hl 0 rfl) ?_
      refine mm_get (v := .ref (ad 2)) hK hx hb hown lg_Mod_16 hP 0 rfl rfl d_Mod_freeOf_23 ?_
      refine lv_iload_n hx hb d_Mod_freeOf_26 rfl (lv_at hl 2 rfl) ?_
      refine mm_iald hK hx hb hP 3 rfl (by decide) (i := k) (by omega) d_Mod_freeOf_27 ?_
      refine mm_si (mm_runS hK ⟨hx, hb, hml, hown⟩ lk_Mod_86 (c_Mod_variable l G (kF k) (by omega)) ⟨rfl, rfl, by decide, by decide⟩ trivial rfl hl.1 rfl (Nat.le_of_ble_eq_true rfl) ⟨by decide, by decide⟩ d_Mod_freeOf_28) (fun r28 e28 => ?_)
      subst e28
      refine lv_aload_n hx hb d_Mod_freeOf_31 rfl (lv_at hl 0 rfl) ?_
      refine mm_get (v := .ref (ad 3)) hK hx hb hown lg_Mod_19 hP 0 rfl rfl d_Mod_freeOf_32 ?_
      refine lv_iload_n hx hb d_Mod_freeOf_35 rfl (lv_at hl 2 rfl) ?_
      refine mm_iald hK hx hb hP 4 rfl (by decide) (i := k) (by omega) d_Mod_freeOf_36 ?_
      refine mm_si (mm_runS hK ⟨hx, hb, hml, hown⟩ lk_Mod_86 (c_Mod_variable l G (kS k) (by omega)) ⟨rfl, rfl, by decide, by decide⟩ trivial rfl hl.1 rfl (Nat.le_of_ble_eq_true rfl) ⟨by decide, by decide⟩ d_Mod_freeOf_37) (fun r37 e37 => ?_)
      subst e37
      refine lv_ior hx hb d_Mod_freeOf_40 ?_
      refine mm_ti (y := nI (vrN (kF k) ||| vrN (kS k))) (or8 _ vr8 _ vr8) ?_
      refine mm_iastN (x := vrN (kF k) ||| vrN (kS k)) hK hx hb hP hD hS 12 rfl (by decide) (i := k) (by omega) d_Mod_freeOf_41 (fun H locs hP hD hS => ?_)
      have hP : va_P G.1 cls_all (TW G o ad nf wt np kK kW kF kS kL kE tm pr ga ho pa (va_up g k (vrN (kF k) ||| vrN (kS k))) rg re) H := hP
      have hD : va_D A (TW G o ad nf wt np kK kW kF kS kL kE tm pr ga ho pa (va_up g k (vrN (kF k) ||| vrN (kS k))) rg re) := hD
      refine lv_goto hx hb d_Mod_freeOf_42 (tgt := 74) (by decide) ?_
      refine lv_aload_n hx hb d_Mod_freeOf_74 rfl (lv_at hl 0 rfl) ?_
      refine mm_get (v := .ref (ad 0)) hK hx hb hown lg_Mod_7 hP 0 rfl rfl d_Mod_freeOf_75 ?_
      refine lv_iload_n hx hb d_Mod_freeOf_78 rfl (lv_at hl 2 rfl) ?_
      refine mm_iald hK hx hb hP 1 rfl (by decide) (i := k) (by omega) d_Mod_freeOf_79 ?_
      refine lv_bipush (v := nI 6) hx hb d_Mod_freeOf_80 (by decide) ?_
      refine lv_icmp_ne hx hb d_Mod_freeOf_82 (tgt := 108) (by decide) (fun c82 => ?_) (fun h9 => by have h9 : kK k = 6 := nb_nef (by omega) (by omega) h9; exfalso; omega)
      have c82 : kK k ≠ 6 := nb_net (by omega) (by omega) c82
      refine lv_iinc (k := 2) (v := nI (k + 1)) (lv' := [(2, .int (nI (k + 1))), (0, .ref o), (1, .int (nI f))]) hx hb d_Mod_freeOf_108 hl rfl (inc1 _) (by decide) rfl (fun ls hl => ?_)
      refine lv_goto hx hb d_Mod_freeOf_111 (tgt := 2) (by decide) ?_
      exact ih2 ((k + 1), (va_up g k (vrN (kF k) ||| vrN (kS k)))) _ _ _ ⟨(lv_sub hl [1, 2, 0] rfl), hP, hD, hS, (by omega), (up_ext hg (by rw [(hG k (by omega)).1, frS_1 (by omega)]))⟩ (by (try dsimp only); omega)
set_option maxHeartbeats 4000000 in
set_option maxRecDepth 100000 in
theorem c_Mod_rangedOf (l : Launch) (G : mm_G) (o : Nat) (ad : Nat → Nat) (nf : Nat) (wt : Bool) (np : Nat) (kK kW kF kS kL kE tm pr ga : Nat → Nat) (ho : Nat → Int64) (pa : Nat → Bool) (fr rg re : Nat → Nat) {A : Nat → Prop} (hD : va_D A (TW G o ad nf wt np kK kW kF kS kL kE tm pr ga ho pa fr rg re)) (FR RG : Nat → Nat) (CL : Nat → Bool) (hF : WF nf kK kW kF kS kL kE) (hG : SG nf kK kW kF kS FR RG CL) (f : Nat) (hf : f < nf) : Met l y_Mod_rangedOf [.code y_Mod_rangedOf b_Mod_rangedOf 5 (some .int)] { frames := 1, cells := 0, slots := 0, locals := 20 } (mm_Pre G [.ref o, .int (nI f)] (fun H => va_P G.1 cls_all (TW G o ad nf wt np kK kW kF kS kL kE tm pr ga ho pa fr rg re) H)) (mm_Qi (fun r H => (∃ rg9, (∀ j, j < f + 1 → rg9 j = RG j) ∧ va_P G.1 cls_all (TW G o ad nf wt np kK kW kF kS kL kE tm pr ga ho pa fr rg9 re) H) ∧ r = nI (RG f)) A) 0 0 A := by
  refine mm_of (by decide) (Nat.le_of_ble_eq_true rfl) ?_
  intro p e s m below meth c ls hx hb hr hk hml hown hnm hK hP hl
  have hl : lv_has ls 5 [(0, .ref o), (1, .int (nI f))] := hl
  have hS : va_S A s.heap s.heap [] := va_S.rf
  have hn := hF.1
  refine lv_iconst hx hb d_Mod_rangedOf_0 ci_0 ?_
  refine lv_istore_n (lv' := [(2, .int (nI 0)), (0, .ref o), (1, .int (nI f))]) hx hb d_Mod_rangedOf_1 rfl hl (by decide) rfl (fun ls hl => ?_)
  refine mm_loop (σ := (Nat) × (Nat → Nat)) (fun x ls H locs => match x with | (k, g) => lv_has ls 5 [(0, .ref o), (1, .int (nI f)), (2, .int (nI k))] ∧ va_P G.1 cls_all (TW G o ad nf wt np kK kW kF kS kL kE tm pr ga ho pa fr g re) H ∧ va_D A (TW G o ad nf wt np kK kW kF kS kL kE tm pr ga ho pa fr g re) ∧ va_S A s.heap H locs ∧ (k ≤ f + 1) ∧ (∀ j, j < k → g j = RG j)) (fun x => match x with | (k, g) => f + 1 - k) ?_ (0, rg) _ _ _ ⟨(lv_sub hl [1, 2, 0] rfl), hP, hD, hS, (by omega), (fun j hj => absurd hj (Nat.not_lt_zero _))⟩
  rintro ⟨k, g⟩ ls H locs ⟨hl, hP, hD, hS, hk9, hg⟩ ih2
  refine lv_iload_n hx hb d_Mod_rangedOf_2 rfl (lv_at hl 2 rfl) ?_
  refine lv_iload_n hx hb d_Mod_rangedOf_3 rfl (lv_at hl 1 rfl) ?_
  refine lv_icmp_gt hx hb d_Mod_rangedOf_4 (tgt := 243) (by decide) (fun c4 => ?_) (fun c4 => ?_)
  · have c4 : k > f := nb_gtt (by omega) (by omega) c4
    refine lv_aload_n hx hb d_Mod_rangedOf_243 rfl (lv_at hl 0 rfl) ?_
    refine mm_get (v := .ref (ad 12)) hK hx hb hown lg_Mod_48 hP 0 rfl rfl d_Mod_rangedOf_244 ?_
    refine lv_iload_n hx hb d_Mod_rangedOf_247 rfl (lv_at hl 1 rfl) ?_
    refine mm_iald hK hx hb hP 13 rfl (by decide) (i := f) (by omega) d_Mod_rangedOf_248 ?_
    refine mm_ti (y := nI (RG f)) (congrArg nI (hg _ (by omega))) ?_
    exact mm_irQ hx hb hr hk hS d_Mod_rangedOf_249 ⟨⟨_, fun j hj => hg j (by omega), hP⟩, rfl⟩
  · have c4 : k ≤ f := nb_gtf (by omega) (by omega) c4
    obtain ⟨a1, a2, a3, a4, a5, a6⟩ := hF.2 k (by omega)
    refine lv_aload_n hx hb d_Mod_rangedOf_7 rfl (lv_at hl 0 rfl) ?_
    refine mm_get (v := .ref (ad 0)) hK hx hb hown lg_Mod_7 hP 0 rfl rfl d_Mod_rangedOf_8 ?_
    refine lv_iload_n hx hb d_Mod_rangedOf_11 rfl (lv_at hl 2 rfl) ?_
    refine mm_iald hK hx hb hP 1 rfl (by decide) (i := k) (by omega) d_Mod_rangedOf_12 ?_
    refine lv_iconst hx hb d_Mod_rangedOf_13 ci_2 ?_
    refine lv_icmp_gt hx hb d_Mod_rangedOf_14 (tgt := 29) (by decide) (fun c14 => ?_) (fun c14 => ?_)
    · have c14 : kK k > 2 := nb_gtt (by omega) (by omega) c14
      obtain ⟨q1, q2⟩ := a6 (by omega)
      refine lv_aload_n hx hb d_Mod_rangedOf_29 rfl (lv_at hl 0 rfl) ?_
      refine mm_get (v := .ref (ad 12)) hK hx hb hown lg_Mod_48 hP 0 rfl rfl d_Mod_rangedOf_30 ?_
      refine lv_aload_n hx hb d_Mod_rangedOf_33 rfl (lv_at hl 0 rfl) ?_
      refine mm_get (v := .ref (ad 2)) hK hx hb hown lg_Mod_16 hP 0 rfl rfl d_Mod_rangedOf_34 ?_
      refine lv_iload_n hx hb d_Mod_rangedOf_37 rfl (lv_at hl 2 rfl) ?_
      refine mm_iald hK hx hb hP 3 rfl (by decide) (i := k) (by omega) d_Mod_rangedOf_38 ?_
      refine mm_iald hK hx hb hP 13 rfl (by decide) (i := kF k) (by omega) d_Mod_rangedOf_39 ?_
      refine mm_ti (y := nI (RG (kF k))) (congrArg nI (hg _ q1)) ?_
      refine lv_istore_n (lv' := [(3, .int (nI (RG (kF k)))), (0, .ref o), (1, .int (nI f)), (2, .int (nI k))]) hx hb d_Mod_rangedOf_40 rfl hl (by decide) rfl (fun ls hl => ?_)
      refine lv_aload_n hx hb d_Mod_rangedOf_41 rfl (lv_at hl 1 rfl) ?_
      refine mm_get (v := .ref (ad 0)) hK hx hb hown lg_Mod_7 hP 0 rfl rfl d_Mod_rangedOf_42 ?_
      refine lv_iload_n hx hb d_Mod_rangedOf_45 rfl (lv_at hl 3 rfl) ?_
      refine mm_iald hK hx hb hP 1 rfl (by decide) (i := k) (by omega) d_Mod_rangedOf_46 ?_
      refine lv_iconst hx hb d_Mod_rangedOf_47 ci_2 ?_
      refine lv_icmp_gt hx hb d_Mod_rangedOf_48 (tgt := 63) (by decide) (fun c48 => ?_) (fun h9 => by have h9 : kK k ≤ 2 := nb_gtf (by omega) (by omega) h9; exfalso; omega)
      have c48 : kK k > 2 := nb_gtt (by omega) (by omega) c48
      refine lv_aload_n hx hb d_Mod_rangedOf_63 rfl (lv_at hl 1 rfl) ?_
      refine mm_get (v := .ref (ad 12)) hK hx hb hown lg_Mod_48 hP 0 rfl rfl d_Mod_rangedOf_64 ?_
      refine lv_aload_n hx hb d_Mod_rangedOf_67 rfl (lv_at hl 1 rfl) ?_
      refine mm_get (v := .ref (ad 3)) hK hx hb hown lg_Mod_19 hP 0 rfl rfl d_Mod_rangedOf_68 ?_
      refine lv_iload_n hx hb d_Mod_rangedOf_71 rfl (lv_at hl 3 rfl) ?_
      refine mm_iald hK hx hb hP 4 rfl (by decide) (i := k) (by omega) d_Mod_rangedOf_72 ?_
      refine mm_iald hK hx hb hP 13 rfl (by decide) (i := kS k) (by omega) d_Mod_rangedOf_73 ?_
      refine mm_ti (y := nI (RG (kS k))) (congrArg nI (hg _ q2)) ?_
      refine lv_istore (lv' := [(4, .int (nI (RG (kS k)))), (3, .int (nI (RG (kF k)))), (0, .ref o), (1, .int (nI f)), (2, .int (nI k))]) hx hb d_Mod_rangedOf_74 hl (by decide) rfl (fun ls hl => ?_)
      refine lv_aload_n hx hb d_Mod_rangedOf_76 rfl (lv_at hl 2 rfl) ?_
      refine mm_get (v := .ref (ad 0)) hK hx hb hown lg_Mod_7 hP 0 rfl rfl d_Mod_rangedOf_77 ?_
      refine lv_iload_n hx hb d_Mod_rangedOf_80 rfl (lv_at hl 4 rfl) ?_
      refine mm_iald hK hx hb hP 1 rfl (by decide) (i := k) (by omega) d_Mod_rangedOf_81 ?_
      refine lv_if_eq hx hb d_Mod_rangedOf_82 (tgt := 95) (by decide) (fun h9 => by have h9 : kK k = 0 := nb_zeqt (by omega) h9; exfalso; omega) (fun c82 => ?_)
      have c82 : kK k ≠ 0 := nb_zeqf (by omega) c82
      refine lv_aload_n hx hb d_Mod_rangedOf_85 rfl (lv_at hl 2 rfl) ?_
      refine mm_get (v := .ref (ad 0)) hK hx hb hown lg_Mod_7 hP 0 rfl rfl d_Mod_rangedOf_86 ?_
      refine lv_iload_n hx hb d_Mod_rangedOf_89 rfl (lv_at hl 4 rfl) ?_
      refine mm_iald hK hx hb hP 1 rfl (by decide) (i := k) (by omega) d_Mod_rangedOf_90 ?_
      refine lv_iconst hx hb d_Mod_rangedOf_91 ci_4 ?_
      refine lv_icmp_ne hx hb d_Mod_rangedOf_92 (tgt := 108) (by decide) (fun c92 => ?_) (fun c92 => ?_)
      · have c92 : kK k ≠ 4 := nb_net (by omega) (by omega) c92
        refine lv_aload_n hx hb d_Mod_rangedOf_108 rfl (lv_at hl 2 rfl) ?_
        refine mm_get (v := .ref (ad 0)) hK hx hb hown lg_Mod_7 hP 0 rfl rfl d_Mod_rangedOf_109 ?_
        refine lv_iload_n hx hb d_Mod_rangedOf_112 rfl (lv_at hl 4 rfl) ?_
        refine mm_iald hK hx hb hP 1 rfl (by decide) (i := k) (by omega) d_Mod_rangedOf_113 ?_
        refine lv_iconst hx hb d_Mod_rangedOf_114 ci_1 ?_
        refine lv_icmp_ne hx hb d_Mod_rangedOf_115 (tgt := 144) (by decide) (fun c115 => ?_) (fun h9 => by have h9 : kK k = 1 := nb_nef (by omega) (by omega) h9; exfalso; omega)
        have c115 : kK k ≠ 1 := nb_net (by omega) (by omega) c115
        refine lv_aload_n hx hb d_Mod_rangedOf_144 rfl (lv_at hl 2 rfl) ?_
        refine mm_get (v := .ref (ad 0)) hK hx hb hown lg_Mod_7 hP 0 rfl rfl d_Mod_rangedOf_145 ?_
        refine lv_iload_n hx hb d_Mod_rangedOf_148 rfl (lv_at hl 4 rfl) ?_
        refine mm_iald hK hx hb hP 1 rfl (by decide) (i := k) (by omega) d_Mod_rangedOf_149 ?_
        refine lv_iconst hx hb d_Mod_rangedOf_150 ci_2 ?_
        refine lv_icmp_eq hx hb d_Mod_rangedOf_151 (tgt := 164) (by decide) (fun h9 => by have h9 : kK k = 2 := nb_eqt (by omega) (by omega) h9; exfalso; omega) (fun c151 => ?_)
        have c151 : kK k ≠ 2 := nb_eqf (by omega) (by omega) c151
        refine lv_aload_n hx hb d_Mod_rangedOf_154 rfl (lv_at hl 2 rfl) ?_
        refine mm_get (v := .ref (ad 0)) hK hx hb hown lg_Mod_7 hP 0 rfl rfl d_Mod_rangedOf_155 ?_
        refine lv_iload_n hx hb d_Mod_rangedOf_158 rfl (lv_at hl 4 rfl) ?_
        refine mm_iald hK hx hb hP 1 rfl (by decide) (i := k) (by omega) d_Mod_rangedOf_159 ?_
        refine lv_iconst hx hb d_Mod_rangedOf_160 ci_3 ?_
        refine lv_icmp_ne hx hb d_Mod_rangedOf_161 (tgt := 174) (by decide) (fun c161 => ?_) (fun c161 => ?_)
        · have c161 : kK k ≠ 3 := nb_net (by omega) (by omega) c161
          refine lv_aload_n hx hb d_Mod_rangedOf_174 rfl (lv_at hl 2 rfl) ?_
          refine mm_get (v := .ref (ad 0)) hK hx hb hown lg_Mod_7 hP 0 rfl rfl d_Mod_rangedOf_175 ?_
          refine lv_iload_n hx hb d_Mod_rangedOf_178 rfl (lv_at hl 4 rfl) ?_
          refine mm_iald hK hx hb hP 1 rfl (by decide) (i := k) (by omega) d_Mod_rangedOf_179 ?_
          refine lv_iconst hx hb d_Mod_rangedOf_180 ci_5 ?_
          refine lv_icmp_ne hx hb d_Mod_rangedOf_181 (tgt := 197) (by decide) (fun c181 => ?_) (fun c181 => ?_)
          · have c181 : kK k ≠ 5 := nb_net (by omega) (by omega) c181
            refine lv_aload_n hx hb d_Mod_rangedOf_197 rfl (lv_at hl 2 rfl) ?_
            refine mm_get (v := .ref (ad 0)) hK hx hb hown lg_Mod_7 hP 0 rfl rfl d_Mod_rangedOf_198 ?_
            refine lv_iload_n hx hb d_Mod_rangedOf_201 rfl (lv_at hl 4 rfl) ?_
            refine mm_iald hK hx hb hP 1 rfl (by decide) (i := k) (by omega) d_Mod_rangedOf_202 ?_
            refine lv_bipush (v := nI 6) hx hb d_Mod_rangedOf_203 (by decide) ?_
            refine lv_icmp_ne hx hb d_Mod_rangedOf_205 (tgt := 229) (by decide) (fun c205 => ?_) (fun c205 => ?_)
            · have c205 : kK k ≠ 6 := nb_net (by omega) (by omega) c205
              refine lv_aload_n hx hb d_Mod_rangedOf_229 rfl (lv_at hl 2 rfl) ?_
              refine mm_get (v := .ref (ad 12)) hK hx hb hown lg_Mod_48 hP 0 rfl rfl d_Mod_rangedOf_230 ?_
              refine lv_iload_n hx hb d_Mod_rangedOf_233 rfl (lv_at hl 4 rfl) ?_
              refine lv_iload hx hb d_Mod_rangedOf_234 (lv_at hl 0 rfl) ?_
              refine mm_iastN (x := RG (kS k)) hK hx hb hP hD hS 13 rfl (by decide) (i := k) (by omega) d_Mod_rangedOf_236 (fun H locs hP hD hS => ?_)
              have hP : va_P G.1 cls_all (TW G o ad nf wt np kK kW kF kS kL kE tm pr ga ho pa fr (va_up g k (RG (kS k))) re) H := hP
              have hD : va_D A (TW G o ad nf wt np kK kW kF kS kL kE tm pr ga ho pa fr (va_up g k (RG (kS k))) re) := hD
              refine lv_iinc (k := 4) (v := nI (k + 1)) (lv' := [(2, .int (nI (k + 1))), (4, .int (nI (RG (kS k)))), (3, .int (nI (RG (kF k)))), (0, .ref o), (1, .int (nI f))]) hx hb d_Mod_rangedOf_237 hl rfl (inc1 _) (by decide) rfl (fun ls hl => ?_)
              refine lv_goto hx hb d_Mod_rangedOf_240 (tgt := 2) (by decide) ?_
              exact ih2 ((k + 1), (va_up g k (RG (kS k)))) _ _ _ ⟨(lv_sub hl [3, 4, 0] rfl), hP, hD, hS, (by omega), (up_ext hg (by rw [(hG k (by omega)).2.2.1, rgS_g (by omega), rgA_2 (by omega)]))⟩ (by (try dsimp only); omega)
            · have c205 : kK k = 6 := nb_nef (by omega) (by omega) c205
              refine lv_aload_n hx hb d_Mod_rangedOf_208 rfl (lv_at hl 2 rfl) ?_
              refine mm_get (v := .ref (ad 12)) hK hx hb hown lg_Mod_48 hP 0 rfl rfl d_Mod_rangedOf_209 ?_
              refine lv_iload_n hx hb d_Mod_rangedOf_212 rfl (lv_at hl 4 rfl) ?_
              refine lv_iload_n hx hb d_Mod_rangedOf_213 rfl (lv_at hl 1 rfl) ?_
              refine lv_iconst hx hb d_Mod_rangedOf_214 ci_1 ?_
              refine lv_aload_n hx hb d_Mod_rangedOf_215 rfl (lv_at hl 2 rfl) ?_
              refine mm_get (v := .ref (ad 1)) hK hx hb hown lg_Mod_13 hP 0 rfl rfl d_Mod_rangedOf_216 ?_
              refine lv_iload_n hx hb d_Mod_rangedOf_219 rfl (lv_at hl 4 rfl) ?_
              refine mm_iald hK hx hb hP 2 rfl (by decide) (i := k) (by omega) d_Mod_rangedOf_220 ?_
              refine lv_ishl hx hb d_Mod_rangedOf_221 ?_
              refine lv_iconst hx hb d_Mod_rangedOf_222 ci_m1 ?_
              refine lv_ixor hx hb d_Mod_rangedOf_223 ?_
              refine lv_iand hx hb d_Mod_rangedOf_224 ?_
              refine mm_ti (y := nI (clrN (RG (kF k)) (kW k))) (clr8 _ (by first | exact vr8 | exact (hG _ (by omega)).2.2.2.1) _ a2) ?_
              refine mm_iastN (x := clrN (RG (kF k)) (kW k)) hK hx hb hP hD hS 13 rfl (by decide) (i := k) (by omega) d_Mod_rangedOf_225 (fun H locs hP hD hS => ?_)
              have hP : va_P G.1 cls_all (TW G o ad nf wt np kK kW kF kS kL kE tm pr ga ho pa fr (va_up g k (clrN (RG (kF k)) (kW k))) re) H := hP
              have hD : va_D A (TW G o ad nf wt np kK kW kF kS kL kE tm pr ga ho pa fr (va_up g k (clrN (RG (kF k)) (kW k))) re) := hD
              refine lv_goto hx hb d_Mod_rangedOf_226 (tgt := 237) (by decide) ?_
              refine lv_iinc (k := 4) (v := nI (k + 1)) (lv' := [(2, .int (nI (k + 1))), (4, .int (nI (RG (kS k)))), (3, .int (nI (RG (kF k)))), (0, .ref o), (1, .int (nI f))]) hx hb d_Mod_rangedOf_237 hl rfl (inc1 _) (by decide) rfl (fun ls hl => ?_)
              refine lv_goto hx hb d_Mod_rangedOf_240 (tgt := 2) (by decide) ?_
              exact ih2 ((k + 1), (va_up g k (clrN (RG (kF k)) (kW k)))) _ _ _ ⟨(lv_sub hl [3, 4, 0] rfl), hP, hD, hS, (by omega), (up_ext hg (by rw [(hG k (by omega)).2.2.1, rgS_f (by omega), rgA_2 (by omega)]))⟩ (by (try dsimp only); omega)
          · have c181 : kK k = 5 := nb_nef (by omega) (by omega) c181
            refine lv_aload_n hx hb d_Mod_rangedOf_184 rfl (lv_at hl 2 rfl) ?_
            refine mm_get (v := .ref (ad 12)) hK hx hb hown lg_Mod_48 hP 0 rfl rfl d_Mod_rangedOf_185 ?_
            refine lv_iload_n hx hb d_Mod_rangedOf_188 rfl (lv_at hl 4 rfl) ?_
            refine lv_iload_n hx hb d_Mod_rangedOf_189 rfl (lv_at hl 1 rfl) ?_
            refine lv_iload hx hb d_Mod_rangedOf_190 (lv_at hl 0 rfl) ?_
            refine lv_iand hx hb d_Mod_rangedOf_192 ?_
            refine mm_ti (y := nI (RG (kF k) &&& RG (kS k))) (and8 _ (by first | exact vr8 | exact (hG _ (by omega)).2.2.2.1) _ (by first | exact vr8 | exact (hG _ (by omega)).2.2.2.1)) ?_
            refine mm_iastN (x := RG (kF k) &&& RG (kS k)) hK hx hb hP hD hS 13 rfl (by decide) (i := k) (by omega) d_Mod_rangedOf_193 (fun H locs hP hD hS => ?_)
            have hP : va_P G.1 cls_all (TW G o ad nf wt np kK kW kF kS kL kE tm pr ga ho pa fr (va_up g k (RG (kF k) &&& RG (kS k))) re) H := hP
            have hD : va_D A (TW G o ad nf wt np kK kW kF kS kL kE tm pr ga ho pa fr (va_up g k (RG (kF k) &&& RG (kS k))) re) := hD
            refine lv_goto hx hb d_Mod_rangedOf_194 (tgt := 237) (by decide) ?_
            refine lv_iinc (k := 4) (v := nI (k + 1)) (lv' := [(2, .int (nI (k + 1))), (4, .int (nI (RG (kS k)))), (3, .int (nI (RG (kF k)))), (0, .ref o), (1, .int (nI f))]) hx hb d_Mod_rangedOf_237 hl rfl (inc1 _) (by decide) rfl (fun ls hl => ?_)
            refine lv_goto hx hb d_Mod_rangedOf_240 (tgt := 2) (by decide) ?_
            exact ih2 ((k + 1), (va_up g k (RG (kF k) &&& RG (kS k)))) _ _ _ ⟨(lv_sub hl [3, 4, 0] rfl), hP, hD, hS, (by omega), (up_ext hg (by rw [(hG k (by omega)).2.2.1, rgS_e (by omega), rgA_2 (by omega), rgA_2 (by omega)]))⟩ (by (try dsimp only); omega)
        · have c161 : kK k = 3 := nb_nef (by omega) (by omega) c161
          refine lv_aload_n hx hb d_Mod_rangedOf_164 rfl (lv_at hl 2 rfl) ?_
          refine mm_get (v := .ref (ad 12)) hK hx hb hown lg_Mod_48 hP 0 rfl rfl d_Mod_rangedOf_165 ?_
          refine lv_iload_n hx hb d_Mod_rangedOf_168 rfl (lv_at hl 4 rfl) ?_
          refine lv_iconst hx hb d_Mod_rangedOf_169 ci_0 ?_
          refine mm_iastN (x := 0) hK hx hb hP hD hS 13 rfl (by decide) (i := k) (by omega) d_Mod_rangedOf_170 (fun H locs hP hD hS => ?_)
          have hP : va_P G.1 cls_all (TW G o ad nf wt np kK kW kF kS kL kE tm pr ga ho pa fr (va_up g k 0) re) H := hP
          have hD : va_D A (TW G o ad nf wt np kK kW kF kS kL kE tm pr ga ho pa fr (va_up g k 0) re) := hD
          refine lv_goto hx hb d_Mod_rangedOf_171 (tgt := 237) (by decide) ?_
          refine lv_iinc (k := 4) (v := nI (k + 1)) (lv' := [(2, .int (nI (k + 1))), (4, .int (nI (RG (kS k)))), (3, .int (nI (RG (kF k)))), (0, .ref o), (1, .int (nI f))]) hx hb d_Mod_rangedOf_237 hl rfl (inc1 _) (by decide) rfl (fun ls hl => ?_)
          refine lv_goto hx hb d_Mod_rangedOf_240 (tgt := 2) (by decide) ?_
          exact ih2 ((k + 1), (va_up g k 0)) _ _ _ ⟨(lv_sub hl [3, 4, 0] rfl), hP, hD, hS, (by omega), (up_ext hg (by rw [(hG k (by omega)).2.2.1, rgS_d (by omega)]))⟩ (by (try dsimp only); omega)
      · have c92 : kK k = 4 := nb_nef (by omega) (by omega) c92
        refine lv_aload_n hx hb d_Mod_rangedOf_95 rfl (lv_at hl 2 rfl) ?_
        refine mm_get (v := .ref (ad 12)) hK hx hb hown lg_Mod_48 hP 0 rfl rfl d_Mod_rangedOf_96 ?_
        refine lv_iload_n hx hb d_Mod_rangedOf_99 rfl (lv_at hl 4 rfl) ?_
        refine lv_iload_n hx hb d_Mod_rangedOf_100 rfl (lv_at hl 1 rfl) ?_
        refine lv_iload hx hb d_Mod_rangedOf_101 (lv_at hl 0 rfl) ?_
        refine lv_ior hx hb d_Mod_rangedOf_103 ?_
        refine mm_ti (y := nI (RG (kF k) ||| RG (kS k))) (or8 _ (by first | exact vr8 | exact (hG _ (by omega)).2.2.2.1) _ (by first | exact vr8 | exact (hG _ (by omega)).2.2.2.1)) ?_
        refine mm_iastN (x := RG (kF k) ||| RG (kS k)) hK hx hb hP hD hS 13 rfl (by decide) (i := k) (by omega) d_Mod_rangedOf_104 (fun H locs hP hD hS => ?_)
        have hP : va_P G.1 cls_all (TW G o ad nf wt np kK kW kF kS kL kE tm pr ga ho pa fr (va_up g k (RG (kF k) ||| RG (kS k))) re) H := hP
        have hD : va_D A (TW G o ad nf wt np kK kW kF kS kL kE tm pr ga ho pa fr (va_up g k (RG (kF k) ||| RG (kS k))) re) := hD
        refine lv_goto hx hb d_Mod_rangedOf_105 (tgt := 237) (by decide) ?_
        refine lv_iinc (k := 4) (v := nI (k + 1)) (lv' := [(2, .int (nI (k + 1))), (4, .int (nI (RG (kS k)))), (3, .int (nI (RG (kF k)))), (0, .ref o), (1, .int (nI f))]) hx hb d_Mod_rangedOf_237 hl rfl (inc1 _) (by decide) rfl (fun ls hl => ?_)
        refine lv_goto hx hb d_Mod_rangedOf_240 (tgt := 2) (by decide) ?_
        exact ih2 ((k + 1), (va_up g k (RG (kF k) ||| RG (kS k)))) _ _ _ ⟨(lv_sub hl [3, 4, 0] rfl), hP, hD, hS, (by omega), (up_ext hg (by rw [(hG k (by omega)).2.2.1, rgS_a (by omega), rgA_2 (by omega), rgA_2 (by omega)]))⟩ (by (try dsimp only); omega)
    · have c14 : kK k ≤ 2 := nb_gtf (by omega) (by omega) c14
      obtain ⟨q1, q2, q3, q4⟩ := a5 (by omega)
      have z3 := vr8 (t := kF k)
      have z4 := vr8 (t := kS k)
      refine lv_aload_n hx hb d_Mod_rangedOf_17 rfl (lv_at hl 0 rfl) ?_
      refine mm_get (v := .ref (ad 2)) hK hx hb hown lg_Mod_16 hP 0 rfl rfl d_Mod_rangedOf_18 ?_
      refine lv_iload_n hx hb d_Mod_rangedOf_21 rfl (lv_at hl 2 rfl) ?_
      refine mm_iald hK hx hb hP 3 rfl (by decide) (i := k) (by omega) d_Mod_rangedOf_22 ?_
      refine mm_si (mm_runS hK ⟨hx, hb, hml, hown⟩ lk_Mod_86 (c_Mod_variable l G (kF k) (by omega)) ⟨rfl, rfl, by decide, by decide⟩ trivial rfl hl.1 rfl (Nat.le_of_ble_eq_true rfl) ⟨by decide, by decide⟩ d_Mod_rangedOf_23) (fun r23 e23 => ?_)
      subst e23
      refine lv_goto hx hb d_Mod_rangedOf_26 (tgt := 40) (by decide) ?_
      refine lv_istore_n (lv' := [(3, .int (nI (vrN (kF k)))), (0, .ref o), (1, .int (nI f)), (2, .int (nI k))]) hx hb d_Mod_rangedOf_40 rfl hl (by decide) rfl (fun ls hl => ?_)
      refine lv_aload_n hx hb d_Mod_rangedOf_41 rfl (lv_at hl 1 rfl) ?_
      refine mm_get (v := .ref (ad 0)) hK hx hb hown lg_Mod_7 hP 0 rfl rfl d_Mod_rangedOf_42 ?_
      refine lv_iload_n hx hb d_Mod_rangedOf_45 rfl (lv_at hl 3 rfl) ?_
      refine mm_iald hK hx hb hP 1 rfl (by decide) (i := k) (by omega) d_Mod_rangedOf_46 ?_
      refine lv_iconst hx hb d_Mod_rangedOf_47 ci_2 ?_
      refine lv_icmp_gt hx hb d_Mod_rangedOf_48 (tgt := 63) (by decide) (fun h9 => by have h9 : kK k > 2 := nb_gtt (by omega) (by omega) h9; exfalso; omega) (fun c48 => ?_)
      have c48 : kK k ≤ 2 := nb_gtf (by omega) (by omega) c48
      refine lv_aload_n hx hb d_Mod_rangedOf_51 rfl (lv_at hl 1 rfl) ?_
      refine mm_get (v := .ref (ad 3)) hK hx hb hown lg_Mod_19 hP 0 rfl rfl d_Mod_rangedOf_52 ?_
      refine lv_iload_n hx hb d_Mod_rangedOf_55 rfl (lv_at hl 3 rfl) ?_
      refine mm_iald hK hx hb hP 4 rfl (by decide) (i := k) (by omega) d_Mod_rangedOf_56 ?_
      refine mm_si (mm_runS hK ⟨hx, hb, hml, hown⟩ lk_Mod_86 (c_Mod_variable l G (kS k) (by omega)) ⟨rfl, rfl, by decide, by decide⟩ trivial rfl hl.1 rfl (Nat.le_of_ble_eq_true rfl) ⟨by decide, by decide⟩ d_Mod_rangedOf_57) (fun r57 e57 => ?_)
      subst e57
      refine lv_goto hx hb d_Mod_rangedOf_60 (tgt := 74) (by decide) ?_
      refine lv_istore (lv' := [(4, .int (nI (vrN (kS k)))), (3, .int (nI (vrN (kF k)))), (0, .ref o), (1, .int (nI f)), (2, .int (nI k))]) hx hb d_Mod_rangedOf_74 hl (by decide) rfl (fun ls hl => ?_)
      refine lv_aload_n hx hb d_Mod_rangedOf_76 rfl (lv_at hl 2 rfl) ?_
      refine mm_get (v := .ref (ad 0)) hK hx hb hown lg_Mod_7 hP 0 rfl rfl d_Mod_rangedOf_77 ?_
      refine lv_iload_n hx hb d_Mod_rangedOf_80 rfl (lv_at hl 4 rfl) ?_
      refine mm_iald hK hx hb hP 1 rfl (by decide) (i := k) (by omega) d_Mod_rangedOf_81 ?_
      refine lv_if_eq hx hb d_Mod_rangedOf_82 (tgt := 95) (by decide) (fun c82 => ?_) (fun c82 => ?_)
      · have c82 : kK k = 0 := nb_zeqt (by omega) c82
        refine lv_aload_n hx hb d_Mod_rangedOf_95 rfl (lv_at hl 2 rfl) ?_
        refine mm_get (v := .ref (ad 12)) hK hx hb hown lg_Mod_48 hP 0 rfl rfl d_Mod_rangedOf_96 ?_
        refine lv_iload_n hx hb d_Mod_rangedOf_99 rfl (lv_at hl 4 rfl) ?_
        refine lv_iload_n hx hb d_Mod_rangedOf_100 rfl (lv_at hl 1 rfl) ?_
        refine lv_iload hx hb d_Mod_rangedOf_101 (lv_at hl 0 rfl) ?_
        refine lv_ior hx hb d_Mod_rangedOf_103 ?_
        refine mm_ti (y := nI (vrN (kF k) ||| vrN (kS k))) (or8 _ (by first | exact vr8 | exact (hG _ (by omega)).2.2.2.1) _ (by first | exact vr8 | exact (hG _ (by omega)).2.2.2.1)) ?_
        refine mm_iastN (x := vrN (kF k) ||| vrN (kS k)) hK hx hb hP hD hS 13 rfl (by decide) (i := k) (by omega) d_Mod_rangedOf_104 (fun H locs hP hD hS => ?_)
        have hP : va_P G.1 cls_all (TW G o ad nf wt np kK kW kF kS kL kE tm pr ga ho pa fr (va_up g k (vrN (kF k) ||| vrN (kS k))) re) H := hP
        have hD : va_D A (TW G o ad nf wt np kK kW kF kS kL kE tm pr ga ho pa fr (va_up g k (vrN (kF k) ||| vrN (kS k))) re) := hD
        refine lv_goto hx hb d_Mod_rangedOf_105 (tgt := 237) (by decide) ?_
        refine lv_iinc (k := 4) (v := nI (k + 1)) (lv' := [(2, .int (nI (k + 1))), (4, .int (nI (vrN (kS k)))), (3, .int (nI (vrN (kF k)))), (0, .ref o), (1, .int (nI f))]) hx hb d_Mod_rangedOf_237 hl rfl (inc1 _) (by decide) rfl (fun ls hl => ?_)
        refine lv_goto hx hb d_Mod_rangedOf_240 (tgt := 2) (by decide) ?_
        exact ih2 ((k + 1), (va_up g k (vrN (kF k) ||| vrN (kS k)))) _ _ _ ⟨(lv_sub hl [3, 4, 0] rfl), hP, hD, hS, (by omega), (up_ext hg (by rw [(hG k (by omega)).2.2.1, rgS_a (by omega), rgA_1 (by omega), rgA_1 (by omega)]))⟩ (by (try dsimp only); omega)
      · have c82 : kK k ≠ 0 := nb_zeqf (by omega) c82
        refine lv_aload_n hx hb d_Mod_rangedOf_85 rfl (lv_at hl 2 rfl) ?_
        refine mm_get (v := .ref (ad 0)) hK hx hb hown lg_Mod_7 hP 0 rfl rfl d_Mod_rangedOf_86 ?_
        refine lv_iload_n hx hb d_Mod_rangedOf_89 rfl (lv_at hl 4 rfl) ?_
        refine mm_iald hK hx hb hP 1 rfl (by decide) (i := k) (by omega) d_Mod_rangedOf_90 ?_
        refine lv_iconst hx hb d_Mod_rangedOf_91 ci_4 ?_
        refine lv_icmp_ne hx hb d_Mod_rangedOf_92 (tgt := 108) (by decide) (fun c92 => ?_) (fun h9 => by have h9 : kK k = 4 := nb_nef (by omega) (by omega) h9; exfalso; omega)
        have c92 : kK k ≠ 4 := nb_net (by omega) (by omega) c92
        refine lv_aload_n hx hb d_Mod_rangedOf_108 rfl (lv_at hl 2 rfl) ?_
        refine mm_get (v := .ref (ad 0)) hK hx hb hown lg_Mod_7 hP 0 rfl rfl d_Mod_rangedOf_109 ?_
        refine lv_iload_n hx hb d_Mod_rangedOf_112 rfl (lv_at hl 4 rfl) ?_
        refine mm_iald hK hx hb hP 1 rfl (by decide) (i := k) (by omega) d_Mod_rangedOf_113 ?_
        refine lv_iconst hx hb d_Mod_rangedOf_114 ci_1 ?_
        refine lv_icmp_ne hx hb d_Mod_rangedOf_115 (tgt := 144) (by decide) (fun c115 => ?_) (fun c115 => ?_)
        · have c115 : kK k ≠ 1 := nb_net (by omega) (by omega) c115
          refine lv_aload_n hx hb d_Mod_rangedOf_144 rfl (lv_at hl 2 rfl) ?_
          refine mm_get (v := .ref (ad 0)) hK hx hb hown lg_Mod_7 hP 0 rfl rfl d_Mod_rangedOf_145 ?_
          refine lv_iload_n hx hb d_Mod_rangedOf_148 rfl (lv_at hl 4 rfl) ?_
          refine mm_iald hK hx hb hP 1 rfl (by decide) (i := k) (by omega) d_Mod_rangedOf_149 ?_
          refine lv_iconst hx hb d_Mod_rangedOf_150 ci_2 ?_
          refine lv_icmp_eq hx hb d_Mod_rangedOf_151 (tgt := 164) (by decide) (fun c151 => ?_) (fun h9 => by have h9 : kK k ≠ 2 := nb_eqf (by omega) (by omega) h9; exfalso; omega)
          have c151 : kK k = 2 := nb_eqt (by omega) (by omega) c151
          refine lv_aload_n hx hb d_Mod_rangedOf_164 rfl (lv_at hl 2 rfl) ?_
          refine mm_get (v := .ref (ad 12)) hK hx hb hown lg_Mod_48 hP 0 rfl rfl d_Mod_rangedOf_165 ?_
          refine lv_iload_n hx hb d_Mod_rangedOf_168 rfl (lv_at hl 4 rfl) ?_
          refine lv_iconst hx hb d_Mod_rangedOf_169 ci_0 ?_
          refine mm_iastN (x := 0) hK hx hb hP hD hS 13 rfl (by decide) (i := k) (by omega) d_Mod_rangedOf_170 (fun H locs hP hD hS => ?_)
          have hP : va_P G.1 cls_all (TW G o ad nf wt np kK kW kF kS kL kE tm pr ga ho pa fr (va_up g k 0) re) H := hP
          have hD : va_D A (TW G o ad nf wt np kK kW kF kS kL kE tm pr ga ho pa fr (va_up g k 0) re) := hD
          refine lv_goto hx hb d_Mod_rangedOf_171 (tgt := 237) (by decide) ?_
          refine lv_iinc (k := 4) (v := nI (k + 1)) (lv' := [(2, .int (nI (k + 1))), (4, .int (nI (vrN (kS k)))), (3, .int (nI (vrN (kF k)))), (0, .ref o), (1, .int (nI f))]) hx hb d_Mod_rangedOf_237 hl rfl (inc1 _) (by decide) rfl (fun ls hl => ?_)
          refine lv_goto hx hb d_Mod_rangedOf_240 (tgt := 2) (by decide) ?_
          exact ih2 ((k + 1), (va_up g k 0)) _ _ _ ⟨(lv_sub hl [3, 4, 0] rfl), hP, hD, hS, (by omega), (up_ext hg (by rw [(hG k (by omega)).2.2.1, rgS_d (by omega)]))⟩ (by (try dsimp only); omega)
        · have c115 : kK k = 1 := nb_nef (by omega) (by omega) c115
          refine lv_aload_n hx hb d_Mod_rangedOf_118 rfl (lv_at hl 2 rfl) ?_
          refine mm_get (v := .ref (ad 12)) hK hx hb hown lg_Mod_48 hP 0 rfl rfl d_Mod_rangedOf_119 ?_
          refine lv_iload_n hx hb d_Mod_rangedOf_122 rfl (lv_at hl 4 rfl) ?_
          refine lv_iload_n hx hb d_Mod_rangedOf_123 rfl (lv_at hl 1 rfl) ?_
          refine lv_if_eq hx hb d_Mod_rangedOf_124 (tgt := 132) (by decide) (fun c124 => ?_) (fun c124 => ?_)
          · have c124 : vrN (kF k) = 0 := nb_zeqt (by omega) c124
            refine lv_iload_n hx hb d_Mod_rangedOf_132 rfl (lv_at hl 1 rfl) ?_
            refine lv_iload hx hb d_Mod_rangedOf_133 (lv_at hl 0 rfl) ?_
            refine lv_ior hx hb d_Mod_rangedOf_135 ?_
            refine mm_ti (y := nI (vrN (kF k) ||| vrN (kS k))) (or8 _ (by first | exact vr8 | exact (hG _ (by omega)).2.2.2.1) _ (by first | exact vr8 | exact (hG _ (by omega)).2.2.2.1)) ?_
            refine lv_goto hx hb d_Mod_rangedOf_136 (tgt := 140) (by decide) ?_
            refine mm_iastN (x := vrN (kF k) ||| vrN (kS k)) hK hx hb hP hD hS 13 rfl (by decide) (i := k) (by omega) d_Mod_rangedOf_140 (fun H locs hP hD hS => ?_)
            have hP : va_P G.1 cls_all (TW G o ad nf wt np kK kW kF kS kL kE tm pr ga ho pa fr (va_up g k (vrN (kF k) ||| vrN (kS k))) re) H := hP
            have hD : va_D A (TW G o ad nf wt np kK kW kF kS kL kE tm pr ga ho pa fr (va_up g k (vrN (kF k) ||| vrN (kS k))) re) := hD
            refine lv_goto hx hb d_Mod_rangedOf_141 (tgt := 237) (by decide) ?_
            refine lv_iinc (k := 4) (v := nI (k + 1)) (lv' := [(2, .int (nI (k + 1))), (4, .int (nI (vrN (kS k)))), (3, .int (nI (vrN (kF k)))), (0, .ref o), (1, .int (nI f))]) hx hb d_Mod_rangedOf_237 hl rfl (inc1 _) (by decide) rfl (fun ls hl => ?_)
            refine lv_goto hx hb d_Mod_rangedOf_240 (tgt := 2) (by decide) ?_
            exact ih2 ((k + 1), (va_up g k (vrN (kF k) ||| vrN (kS k)))) _ _ _ ⟨(lv_sub hl [3, 4, 0] rfl), hP, hD, hS, (by omega), (up_ext hg (by rw [(hG k (by omega)).2.2.1, rgS_b (by omega) (by rw [rgA_1 (by omega), rgA_1 (by omega)]; omega), rgA_1 (by omega), rgA_1 (by omega)]))⟩ (by (try dsimp only); omega)
          · have c124 : vrN (kF k) ≠ 0 := nb_zeqf (by omega) c124
            refine lv_iload hx hb d_Mod_rangedOf_127 (lv_at hl 0 rfl) ?_
            refine lv_if_ne hx hb d_Mod_rangedOf_129 (tgt := 139) (by decide) (fun c129 => ?_) (fun c129 => ?_)
            · have c129 : vrN (kS k) ≠ 0 := nb_znet (by omega) c129
              refine lv_iconst hx hb d_Mod_rangedOf_139 ci_0 ?_
              refine mm_iastN (x := 0) hK hx hb hP hD hS 13 rfl (by decide) (i := k) (by omega) d_Mod_rangedOf_140 (fun H locs hP hD hS => ?_)
              have hP : va_P G.1 cls_all (TW G o ad nf wt np kK kW kF kS kL kE tm pr ga ho pa fr (va_up g k 0) re) H := hP
              have hD : va_D A (TW G o ad nf wt np kK kW kF kS kL kE tm pr ga ho pa fr (va_up g k 0) re) := hD
              refine lv_goto hx hb d_Mod_rangedOf_141 (tgt := 237) (by decide) ?_
              refine lv_iinc (k := 4) (v := nI (k + 1)) (lv' := [(2, .int (nI (k + 1))), (4, .int (nI (vrN (kS k)))), (3, .int (nI (vrN (kF k)))), (0, .ref o), (1, .int (nI f))]) hx hb d_Mod_rangedOf_237 hl rfl (inc1 _) (by decide) rfl (fun ls hl => ?_)
              refine lv_goto hx hb d_Mod_rangedOf_240 (tgt := 2) (by decide) ?_
              exact ih2 ((k + 1), (va_up g k 0)) _ _ _ ⟨(lv_sub hl [3, 4, 0] rfl), hP, hD, hS, (by omega), (up_ext hg (by rw [(hG k (by omega)).2.2.1, rgS_c (by omega) (by rw [rgA_1 (by omega), rgA_1 (by omega)]; omega)]))⟩ (by (try dsimp only); omega)
            · have c129 : vrN (kS k) = 0 := nb_znef (by omega) c129
              refine lv_iload_n hx hb d_Mod_rangedOf_132 rfl (lv_at hl 1 rfl) ?_
              refine lv_iload hx hb d_Mod_rangedOf_133 (lv_at hl 0 rfl) ?_
              refine lv_ior hx hb d_Mod_rangedOf_135 ?_
              refine mm_ti (y := nI (vrN (kF k) ||| vrN (kS k))) (or8 _ (by first | exact vr8 | exact (hG _ (by omega)).2.2.2.1) _ (by first | exact vr8 | exact (hG _ (by omega)).2.2.2.1)) ?_
              refine lv_goto hx hb d_Mod_rangedOf_136 (tgt := 140) (by decide) ?_
              refine mm_iastN (x := vrN (kF k) ||| vrN (kS k)) hK hx hb hP hD hS 13 rfl (by decide) (i := k) (by omega) d_Mod_rangedOf_140 (fun H locs hP hD hS => ?_)
              have hP : va_P G.1 cls_all (TW G o ad nf wt np kK kW kF kS kL kE tm pr ga ho pa fr (va_up g k (vrN (kF k) ||| vrN (kS k))) re) H := hP
              have hD : va_D A (TW G o ad nf wt np kK kW kF kS kL kE tm pr ga ho pa fr (va_up g k (vrN (kF k) ||| vrN (kS k))) re) := hD
              refine lv_goto hx hb d_Mod_rangedOf_141 (tgt := 237) (by decide) ?_
              refine lv_iinc (k := 4) (v := nI (k + 1)) (lv' := [(2, .int (nI (k + 1))), (4, .int (nI (vrN (kS k)))), (3, .int (nI (vrN (kF k)))), (0, .ref o), (1, .int (nI f))]) hx hb d_Mod_rangedOf_237 hl rfl (inc1 _) (by decide) rfl (fun ls hl => ?_)
              refine lv_goto hx hb d_Mod_rangedOf_240 (tgt := 2) (by decide) ?_
              exact ih2 ((k + 1), (va_up g k (vrN (kF k) ||| vrN (kS k)))) _ _ _ ⟨(lv_sub hl [3, 4, 0] rfl), hP, hD, hS, (by omega), (up_ext hg (by rw [(hG k (by omega)).2.2.1, rgS_b (by omega) (by rw [rgA_1 (by omega), rgA_1 (by omega)]; omega), rgA_1 (by omega), rgA_1 (by omega)]))⟩ (by (try dsimp only); omega)
set_option maxHeartbeats 4000000 in
set_option maxRecDepth 100000 in
theorem c_Mod_free (l : Launch) (G : mm_G) (o : Nat) (ad : Nat → Nat) (nf : Nat) (wt : Bool) (np : Nat) (kK kW kF kS kL kE tm pr ga : Nat → Nat) (ho : Nat → Int64) (pa : Nat → Bool) (fr rg re : Nat → Nat) {A : Nat → Prop} (hD : va_D A (TW G o ad nf wt np kK kW kF kS kL kE tm pr ga ho pa fr rg re)) (FR RG : Nat → Nat) (CL : Nat → Bool) (hF : WF nf kK kW kF kS kL kE) (hG : SG nf kK kW kF kS FR RG CL) (f : Int32) : Met l y_Mod_free [.code y_Mod_free b_Mod_free 2 (some .int)] { frames := 2, cells := 0, slots := 0, locals := 42 } (mm_Pre G [.ref o, .int f] (fun H => va_P G.1 cls_all (TW G o ad nf wt np kK kW kF kS kL kE tm pr ga ho pa fr rg re) H)) (mm_Qi (fun r H => (∃ x9, va_P G.1 cls_all (TW G o ad nf wt np kK kW kF kS kL kE tm pr ga ho pa x9 rg re) H) ∧ r = (if fmB f nf = true then nI (FR (cN f)) else -1)) A) 0 0 A := by
  refine mm_of (by decide) (Nat.le_of_ble_eq_true rfl) ?_
  intro p e s m below meth c ls hx hb hr hk hml hown hnm hK hP hl
  have hl : lv_has ls 2 [(0, .ref o), (1, .int f)] := hl
  have hS : va_S A s.heap s.heap [] := va_S.rf
  have hn := hF.1
  refine lv_aload_n hx hb d_Mod_free_0 rfl (lv_at hl 0 rfl) ?_
  refine lv_iload_n hx hb d_Mod_free_1 rfl (lv_at hl 1 rfl) ?_
  refine mm_si (mm_runV hK ⟨hx, hb, hml, hown⟩ lk_Mod_75 (c_Mod_isFormula l G o ad nf wt np kK kW kF kS kL kE tm pr ga ho pa fr rg re f hn) ⟨rfl, rfl, by decide, by decide⟩ (mm_rc hK hP 0 rfl rfl) hP rfl hl.1 rfl (Nat.le_of_ble_eq_true rfl) ⟨by decide, by decide⟩ d_Mod_free_2) (fun r2 e2 => ?_)
  subst e2
  refine mm_ifeqB hx hb d_Mod_free_5 (tgt := 16) (by decide) (fun c5 => ?_) (fun c5 => ?_)
  · refine lv_iconst hx hb d_Mod_free_16 ci_m1 ?_
    exact mm_irQ hx hb hr hk hS d_Mod_free_17 ⟨⟨_, hP⟩, (if_neg (by rw [c5]; decide)).symm⟩
  · obtain ⟨x1, rfl, y1⟩ := fm_of c5
    refine lv_aload_n hx hb d_Mod_free_8 rfl (lv_at hl 0 rfl) ?_
    refine lv_iload_n hx hb d_Mod_free_9 rfl (lv_at hl 1 rfl) ?_
    refine mm_qi (mm_runV hK ⟨hx, hb, hml, hown⟩ lk_Mod_90 (c_Mod_freeOf l G o ad nf wt np kK kW kF kS kL kE tm pr ga ho pa fr rg re hD FR RG CL hF hG x1 (by omega)) ⟨rfl, rfl, by decide, by decide⟩ (mm_rc hK hP 0 rfl rfl) hP rfl hl.1 rfl (Nat.le_of_ble_eq_true rfl) ⟨by decide, by decide⟩ d_Mod_free_10) hS (fun q h => h) (fun r10 H locs e10 hz1 hk1 hS => ?_)
    obtain ⟨⟨fr10, hP⟩, rfl⟩ := e10
    have hD : va_D A (TW G o ad nf wt np kK kW kF kS kL kE tm pr ga ho pa fr10 rg re) := mD hD rfl
    refine lv_goto hx hb d_Mod_free_13 (tgt := 17) (by decide) ?_
    exact mm_irQ hx hb hr hk hS d_Mod_free_17 ⟨⟨_, hP⟩, by rw [if_pos c5, cN_nI (by omega)]⟩
set_option maxHeartbeats 4000000 in
set_option maxRecDepth 100000 in
theorem c_Mod_ranged (l : Launch) (G : mm_G) (o : Nat) (ad : Nat → Nat) (nf : Nat) (wt : Bool) (np : Nat) (kK kW kF kS kL kE tm pr ga : Nat → Nat) (ho : Nat → Int64) (pa : Nat → Bool) (fr rg re : Nat → Nat) {A : Nat → Prop} (hD : va_D A (TW G o ad nf wt np kK kW kF kS kL kE tm pr ga ho pa fr rg re)) (FR RG : Nat → Nat) (CL : Nat → Bool) (hF : WF nf kK kW kF kS kL kE) (hG : SG nf kK kW kF kS FR RG CL) (f : Int32) : Met l y_Mod_ranged [.code y_Mod_ranged b_Mod_ranged 2 (some .int)] { frames := 2, cells := 0, slots := 0, locals := 44 } (mm_Pre G [.ref o, .int f] (fun H => va_P G.1 cls_all (TW G o ad nf wt np kK kW kF kS kL kE tm pr ga ho pa fr rg re) H)) (mm_Qi (fun r H => (∃ x9, va_P G.1 cls_all (TW G o ad nf wt np kK kW kF kS kL kE tm pr ga ho pa fr x9 re) H) ∧ r = (if fmB f nf = true then nI (RG (cN f)) else -1)) A) 0 0 A := by
  refine mm_of (by decide) (Nat.le_of_ble_eq_true rfl) ?_
  intro p e s m below meth c ls hx hb hr hk hml hown hnm hK hP hl
  have hl : lv_has ls 2 [(0, .ref o), (1, .int f)] := hl
  have hS : va_S A s.heap s.heap [] := va_S.rf
  have hn := hF.1
  refine lv_aload_n hx hb d_Mod_ranged_0 rfl (lv_at hl 0 rfl) ?_
  refine lv_iload_n hx hb d_Mod_ranged_1 rfl (lv_at hl 1 rfl) ?_
  refine mm_si (mm_runV hK ⟨hx, hb, hml, hown⟩ lk_Mod_75 (c_Mod_isFormula l G o ad nf wt np kK kW kF kS kL kE tm pr ga ho pa fr rg re f hn) ⟨rfl, rfl, by decide, by decide⟩ (mm_rc hK hP 0 rfl rfl) hP rfl hl.1 rfl (Nat.le_of_ble_eq_true rfl) ⟨by decide, by decide⟩ d_Mod_ranged_2) (fun r2 e2 => ?_)
  subst e2
  refine mm_ifeqB hx hb d_Mod_ranged_5 (tgt := 16) (by decide) (fun c5 => ?_) (fun c5 => ?_)
  · refine lv_iconst hx hb d_Mod_ranged_16 ci_m1 ?_
    exact mm_irQ hx hb hr hk hS d_Mod_ranged_17 ⟨⟨_, hP⟩, (if_neg (by rw [c5]; decide)).symm⟩
  · obtain ⟨x1, rfl, y1⟩ := fm_of c5
    refine lv_aload_n hx hb d_Mod_ranged_8 rfl (lv_at hl 0 rfl) ?_
    refine lv_iload_n hx hb d_Mod_ranged_9 rfl (lv_at hl 1 rfl) ?_
    refine mm_qi (mm_runV hK ⟨hx, hb, hml, hown⟩ lk_Mod_93 (c_Mod_rangedOf l G o ad nf wt np kK kW kF kS kL kE tm pr ga ho pa fr rg re hD FR RG CL hF hG x1 (by omega)) ⟨rfl, rfl, by decide, by decide⟩ (mm_rc hK hP 0 rfl rfl) hP rfl hl.1 rfl (Nat.le_of_ble_eq_true rfl) ⟨by decide, by decide⟩ d_Mod_ranged_10) hS (fun q h => h) (fun r10 H locs e10 hz1 hk1 hS => ?_)
    obtain ⟨⟨rg10, hrg, hP⟩, rfl⟩ := e10
    have hD : va_D A (TW G o ad nf wt np kK kW kF kS kL kE tm pr ga ho pa fr rg10 re) := mD hD rfl
    refine lv_goto hx hb d_Mod_ranged_13 (tgt := 17) (by decide) ?_
    exact mm_irQ hx hb hr hk hS d_Mod_ranged_17 ⟨⟨_, hP⟩, by rw [if_pos c5, cN_nI (by omega)]⟩
set_option maxHeartbeats 4000000 in
set_option maxRecDepth 100000 in
theorem c_Mod_bounded (l : Launch) (G : mm_G) (o : Nat) (ad : Nat → Nat) (nf : Nat) (wt : Bool) (np : Nat) (kK kW kF kS kL kE tm pr ga : Nat → Nat) (ho : Nat → Int64) (pa : Nat → Bool) (fr rg re : Nat → Nat) {A : Nat → Prop} (hD : va_D A (TW G o ad nf wt np kK kW kF kS kL kE tm pr ga ho pa fr rg re)) (FR RG : Nat → Nat) (CL : Nat → Bool) (hF : WF nf kK kW kF kS kL kE) (hG : SG nf kK kW kF kS FR RG CL) (f : Int32) : Met l y_Mod_bounded [.code y_Mod_bounded b_Mod_bounded 3 (some .boolean)] { frames := 2, cells := 0, slots := 0, locals := 44 } (mm_Pre G [.ref o, .int f] (fun H => va_P G.1 cls_all (TW G o ad nf wt np kK kW kF kS kL kE tm pr ga ho pa fr rg re) H)) (mm_Qi (fun r H => (∃ pa9 fr9 rg9, va_P G.1 cls_all (TW G o ad nf wt np kK kW kF kS kL kE tm pr ga ho pa9 fr9 rg9 re) H) ∧ r = bI (bdB f nf FR RG CL)) A) 0 0 A := by
  refine mm_of (by decide) (Nat.le_of_ble_eq_true rfl) ?_
  intro p e s m below meth c ls hx hb hr hk hml hown hnm hK hP hl
  have hl : lv_has ls 3 [(0, .ref o), (1, .int f)] := hl
  have hS : va_S A s.heap s.heap [] := va_S.rf
  have hn := hF.1
  refine lv_aload_n hx hb d_Mod_bounded_0 rfl (lv_at hl 0 rfl) ?_
  refine lv_iload_n hx hb d_Mod_bounded_1 rfl (lv_at hl 1 rfl) ?_
  refine mm_si (mm_runV hK ⟨hx, hb, hml, hown⟩ lk_Mod_75 (c_Mod_isFormula l G o ad nf wt np kK kW kF kS kL kE tm pr ga ho pa fr rg re f hn) ⟨rfl, rfl, by decide, by decide⟩ (mm_rc hK hP 0 rfl rfl) hP rfl hl.1 rfl (Nat.le_of_ble_eq_true rfl) ⟨by decide, by decide⟩ d_Mod_bounded_2) (fun r2 e2 => ?_)
  subst e2
  refine mm_ifeqB hx hb d_Mod_bounded_5 (tgt := 24) (by decide) (fun c5 => ?_) (fun c5 => ?_)
  · refine lv_iconst hx hb d_Mod_bounded_24 ci_0 ?_
    exact mm_zrQ false (by first | rfl | decide) hx hb hr hk hS d_Mod_bounded_25 ⟨⟨_, _, _, hP⟩, by unfold bdB; rw [c5]; rfl⟩
  · obtain ⟨x1, rfl, y1⟩ := fm_of c5
    refine lv_aload_n hx hb d_Mod_bounded_8 rfl (lv_at hl 0 rfl) ?_
    refine lv_iload_n hx hb d_Mod_bounded_9 rfl (lv_at hl 1 rfl) ?_
    refine mm_qi (mm_runV hK ⟨hx, hb, hml, hown⟩ lk_Mod_90 (c_Mod_freeOf l G o ad nf wt np kK kW kF kS kL kE tm pr ga ho pa fr rg re hD FR RG CL hF hG x1 (by omega)) ⟨rfl, rfl, by decide, by decide⟩ (mm_rc hK hP 0 rfl rfl) hP rfl hl.1 rfl (Nat.le_of_ble_eq_true rfl) ⟨by decide, by decide⟩ d_Mod_bounded_10) hS (fun q h => h) (fun r10 H locs e10 hz1 hk1 hS => ?_)
    obtain ⟨⟨fr10, hP⟩, rfl⟩ := e10
    have hD : va_D A (TW G o ad nf wt np kK kW kF kS kL kE tm pr ga ho pa fr10 rg re) := mD hD rfl
    refine lv_aload_n hx hb d_Mod_bounded_13 rfl (lv_at hl 0 rfl) ?_
    refine lv_iload_n hx hb d_Mod_bounded_14 rfl (lv_at hl 1 rfl) ?_
    refine mm_qi (mm_runV hK ⟨hx, hb, hml, hown⟩ lk_Mod_93 (c_Mod_rangedOf l G o ad nf wt np kK kW kF kS kL kE tm pr ga ho pa fr10 rg re hD FR RG CL hF hG x1 (by omega)) ⟨rfl, rfl, by decide, by decide⟩ (mm_rc hK hP 0 rfl rfl) hP rfl hl.1 rfl (Nat.le_of_ble_eq_true rfl) ⟨by decide, by decide⟩ d_Mod_bounded_15) hS (fun q h => h) (fun r15 H locs e15 hz1 hk1 hS => ?_)
    obtain ⟨⟨rg15, hrg, hP⟩, rfl⟩ := e15
    have hD : va_D A (TW G o ad nf wt np kK kW kF kS kL kE tm pr ga ho pa fr10 rg15 re) := mD hD rfl
    refine lv_iconst hx hb d_Mod_bounded_18 ci_m1 ?_
    refine lv_ixor hx hb d_Mod_bounded_19 ?_
    refine lv_iand hx hb d_Mod_bounded_20 ?_
    refine mm_ti (y := nI (FR x1 &&& (7 - RG x1))) (nand8 _ (hG _ y1).2.1 _ (hG _ y1).2.2.2.1) ?_
    have z1 : FR x1 &&& (7 - RG x1) < 8 := Nat.lt_of_le_of_lt Nat.and_le_left (hG _ y1).2.1
    refine lv_if_eq hx hb d_Mod_bounded_21 (tgt := 26) (by decide) (fun c21 => ?_) (fun c21 => ?_)
    · have c21 : FR x1 &&& (7 - RG x1) = 0 := nb_zeqt (by omega) c21
      refine lv_iconst hx hb d_Mod_bounded_26 ci_0 ?_
      refine lv_istore_n (lv' := [(2, .int (nI 0)), (0, .ref o), (1, .int (nI x1))]) hx hb d_Mod_bounded_27 rfl hl (by decide) rfl (fun ls hl => ?_)
      refine mm_loop (σ := (Nat) × (Nat → Bool)) (fun x ls H locs => match x with | (k, g) => lv_has ls 3 [(0, .ref o), (1, .int (nI x1)), (2, .int (nI k))] ∧ va_P G.1 cls_all (TW G o ad nf wt np kK kW kF kS kL kE tm pr ga ho g fr10 rg15 re) H ∧ va_D A (TW G o ad nf wt np kK kW kF kS kL kE tm pr ga ho g fr10 rg15 re) ∧ va_S A s.heap H locs ∧ (k ≤ 12) ∧ (∀ j, j < k → g j = decide (j = x1))) (fun x => match x with | (k, g) => 12 - k) ?_ (0, pa) _ _ _ ⟨(lv_sub hl [1, 2, 0] rfl), hP, hD, hS, (by omega), (fun j hj => absurd hj (Nat.not_lt_zero _))⟩
      rintro ⟨k, g⟩ ls H locs ⟨hl, hP, hD, hS, hk9, hg⟩ ih28
      refine lv_iload_n hx hb d_Mod_bounded_28 rfl (lv_at hl 2 rfl) ?_
      refine lv_bipush (v := nI 12) hx hb d_Mod_bounded_29 (by decide) ?_
      refine lv_icmp_ge hx hb d_Mod_bounded_31 (tgt := 56) (by decide) (fun c31 => ?_) (fun c31 => ?_)
      · have c31 : k ≥ 12 := nb_get (by omega) (by omega) c31
        refine lv_iload_n hx hb d_Mod_bounded_56 rfl (lv_at hl 1 rfl) ?_
        refine mm_ti (y := nI (x1 + 1) - 1) (nI_pred x1).symm ?_
        refine lv_istore_n (lv' := [(2, .int (nI (x1 + 1) - 1)), (0, .ref o), (1, .int (nI x1))]) hx hb d_Mod_bounded_57 rfl hl (by decide) rfl (fun ls hl => ?_)
        refine mm_loop (σ := (Nat) × (Nat → Bool)) (fun x ls H locs => match x with | (j1, gg) => lv_has ls 3 [(0, .ref o), (1, .int (nI x1)), (2, .int (nI j1 - 1))] ∧ va_P G.1 cls_all (TW G o ad nf wt np kK kW kF kS kL kE tm pr ga ho gg fr10 rg15 re) H ∧ va_D A (TW G o ad nf wt np kK kW kF kS kL kE tm pr ga ho gg fr10 rg15 re) ∧ va_S A s.heap H locs ∧ (j1 ≤ x1 + 1) ∧ (bdI CL x1 j1 gg)) (fun x => match x with | (j1, gg) => j1) ?_ ((x1 + 1), g) _ _ _ ⟨(lv_sub hl [1, 2, 0] rfl), hP, hD, hS, (Nat.le_refl _), (bd_0 (fun j hj => hg j (by omega)) (by omega))⟩
        rintro ⟨j1, gg⟩ ls H locs ⟨hl, hP, hD, hS, hj, hI⟩ ih58
        refine lv_iload_n hx hb d_Mod_bounded_58 rfl (lv_at hl 2 rfl) ?_
        refine lv_if_lt hx hb d_Mod_bounded_59 (tgt := 147) (by decide) (fun c59 => ?_) (fun c59 => ?_)
        · rw [Int32.lt_iff_toInt_lt, eI_toInt (n := j1) (by omega), Int32.toInt_zero] at c59
          refine lv_iconst hx hb d_Mod_bounded_147 ci_1 ?_
          exact mm_zrQ true (by first | rfl | decide) hx hb hr hk hS d_Mod_bounded_148 ⟨⟨_, _, _, hP⟩, by unfold bdB; rw [c5, cN_nI (by omega), decide_eq_true c21, hI.mpr (fun j hj => absurd hj (by omega))]; rfl⟩
        · rw [Int32.lt_iff_toInt_lt, eI_toInt (n := j1) (by omega), Int32.toInt_zero] at c59
          obtain ⟨k, rfl⟩ : ∃ k, j1 = k + 1 := ⟨j1 - 1, by omega⟩
          rw [nI_pred] at hl
          obtain ⟨a1, a2, a3, a4, a5, a6⟩ := hF.2 k (by omega)
          refine lv_aload_n hx hb d_Mod_bounded_62 rfl (lv_at hl 0 rfl) ?_
          refine mm_get (v := .ref (ad 10)) hK hx hb hown lg_Mod_41 hP 0 rfl rfl d_Mod_bounded_63 ?_
          refine lv_iload_n hx hb d_Mod_bounded_66 rfl (lv_at hl 2 rfl) ?_
          refine mm_zald hK hx hb hP 11 rfl (by decide) (i := k) (by omega) d_Mod_bounded_67 ?_
          refine mm_ifeqB hx hb d_Mod_bounded_68 (tgt := 141) (by decide) (fun c68 => ?_) (fun c68 => ?_)
          · refine lv_iinc (k := 2) (v := nI k - 1) (lv' := [(2, .int (nI k - 1)), (0, .ref o), (1, .int (nI x1))]) hx hb d_Mod_bounded_141 hl rfl (decE _) (by decide) rfl (fun ls hl => ?_)
            refine lv_goto hx hb d_Mod_bounded_144 (tgt := 58) (by decide) ?_
            exact ih58 (k, gg) _ _ _ ⟨(lv_sub hl [1, 2, 0] rfl), hP, hD, hS, (by omega), (bd_skip hI (Or.inl c68))⟩ (by (try dsimp only); omega)
          · refine lv_aload_n hx hb d_Mod_bounded_71 rfl (lv_at hl 0 rfl) ?_
            refine mm_get (v := .ref (ad 0)) hK hx hb hown lg_Mod_7 hP 0 rfl rfl d_Mod_bounded_72 ?_
            refine lv_iload_n hx hb d_Mod_bounded_75 rfl (lv_at hl 2 rfl) ?_
            refine mm_iald hK hx hb hP 1 rfl (by decide) (i := k) (by omega) d_Mod_bounded_76 ?_
            refine lv_iconst hx hb d_Mod_bounded_77 ci_2 ?_
            refine lv_icmp_le hx hb d_Mod_bounded_78 (tgt := 141) (by decide) (fun c78 => ?_) (fun c78 => ?_)
            · have c78 : kK k ≤ 2 := nb_let (by omega) (by omega) c78
              refine lv_iinc (k := 2) (v := nI k - 1) (lv' := [(2, .int (nI k - 1)), (0, .ref o), (1, .int (nI x1))]) hx hb d_Mod_bounded_141 hl rfl (decE _) (by decide) rfl (fun ls hl => ?_)
              refine lv_goto hx hb d_Mod_bounded_144 (tgt := 58) (by decide) ?_
              exact ih58 (k, gg) _ _ _ ⟨(lv_sub hl [1, 2, 0] rfl), hP, hD, hS, (by omega), (bd_skip hI (Or.inr (by rw [(hG k (by omega)).2.2.2.2]; exact cl_1 c78)))⟩ (by (try dsimp only); omega)
            · have c78 : kK k > 2 := nb_lef (by omega) (by omega) c78
              obtain ⟨q1, q2⟩ := a6 (by omega)
              refine lv_aload_n hx hb d_Mod_bounded_81 rfl (lv_at hl 0 rfl) ?_
              refine mm_get (v := .ref (ad 0)) hK hx hb hown lg_Mod_7 hP 0 rfl rfl d_Mod_bounded_82 ?_
              refine lv_iload_n hx hb d_Mod_bounded_85 rfl (lv_at hl 2 rfl) ?_
              refine mm_iald hK hx hb hP 1 rfl (by decide) (i := k) (by omega) d_Mod_bounded_86 ?_
              refine lv_bipush (v := nI 6) hx hb d_Mod_bounded_87 (by decide) ?_
              refine lv_icmp_ne hx hb d_Mod_bounded_89 (tgt := 117) (by decide) (fun c89 => ?_) (fun c89 => ?_)
              · have c89 : kK k ≠ 6 := nb_net (by omega) (by omega) c89
                refine lv_aload_n hx hb d_Mod_bounded_117 rfl (lv_at hl 0 rfl) ?_
                refine mm_get (v := .ref (ad 10)) hK hx hb hown lg_Mod_41 hP 0 rfl rfl d_Mod_bounded_118 ?_
                refine lv_aload_n hx hb d_Mod_bounded_121 rfl (lv_at hl 0 rfl) ?_
                refine mm_get (v := .ref (ad 2)) hK hx hb hown lg_Mod_16 hP 0 rfl rfl d_Mod_bounded_122 ?_
                refine lv_iload_n hx hb d_Mod_bounded_125 rfl (lv_at hl 2 rfl) ?_
                refine mm_iald hK hx hb hP 3 rfl (by decide) (i := k) (by omega) d_Mod_bounded_126 ?_
                refine lv_iconst hx hb d_Mod_bounded_127 ci_1 ?_
                refine mm_ti (y := bI true) (by decide) ?_
                refine mm_zast (x := true) hK hx hb hP hD hS 11 rfl (by decide) (i := kF k) (by omega) d_Mod_bounded_128 (fun H locs hP hD hS => ?_)
                have hP : va_P G.1 cls_all (TW G o ad nf wt np kK kW kF kS kL kE tm pr ga ho (va_up gg (kF k) true) fr10 rg15 re) H := hP
                have hD : va_D A (TW G o ad nf wt np kK kW kF kS kL kE tm pr ga ho (va_up gg (kF k) true) fr10 rg15 re) := hD
                refine lv_aload_n hx hb d_Mod_bounded_129 rfl (lv_at hl 0 rfl) ?_
                refine mm_get (v := .ref (ad 10)) hK hx hb hown lg_Mod_41 hP 0 rfl rfl d_Mod_bounded_130 ?_
                refine lv_aload_n hx hb d_Mod_bounded_133 rfl (lv_at hl 0 rfl) ?_
                refine mm_get (v := .ref (ad 3)) hK hx hb hown lg_Mod_19 hP 0 rfl rfl d_Mod_bounded_134 ?_
                refine lv_iload_n hx hb d_Mod_bounded_137 rfl (lv_at hl 2 rfl) ?_
                refine mm_iald hK hx hb hP 4 rfl (by decide) (i := k) (by omega) d_Mod_bounded_138 ?_
                refine lv_iconst hx hb d_Mod_bounded_139 ci_1 ?_
                refine mm_ti (y := bI true) (by decide) ?_
                refine mm_zast (x := true) hK hx hb hP hD hS 11 rfl (by decide) (i := kS k) (by omega) d_Mod_bounded_140 (fun H locs hP hD hS => ?_)
                have hP : va_P G.1 cls_all (TW G o ad nf wt np kK kW kF kS kL kE tm pr ga ho (va_up (va_up gg (kF k) true) (kS k) true) fr10 rg15 re) H := hP
                have hD : va_D A (TW G o ad nf wt np kK kW kF kS kL kE tm pr ga ho (va_up (va_up gg (kF k) true) (kS k) true) fr10 rg15 re) := hD
                refine lv_iinc (k := 2) (v := nI k - 1) (lv' := [(2, .int (nI k - 1)), (0, .ref o), (1, .int (nI x1))]) hx hb d_Mod_bounded_141 hl rfl (decE _) (by decide) rfl (fun ls hl => ?_)
                refine lv_goto hx hb d_Mod_bounded_144 (tgt := 58) (by decide) ?_
                exact ih58 (k, (va_up (va_up gg (kF k) true) (kS k) true)) _ _ _ ⟨(lv_sub hl [1, 2, 0] rfl), hP, hD, hS, (by omega), (bd_in hI c68 (by rw [(hG k (by omega)).2.2.2.2]; exact cl_2 (by omega) (fun h6 => by first | exact absurd h6 c89 | (cases hz : (RG (kF k)).testBit (kW k); (rw [hz] at c112; exact absurd rfl c112); rfl))) q1 q2)⟩ (by (try dsimp only); omega)
              · have c89 : kK k = 6 := nb_nef (by omega) (by omega) c89
                refine lv_aload_n hx hb d_Mod_bounded_92 rfl (lv_at hl 0 rfl) ?_
                refine mm_get (v := .ref (ad 12)) hK hx hb hown lg_Mod_48 hP 0 rfl rfl d_Mod_bounded_93 ?_
                refine lv_aload_n hx hb d_Mod_bounded_96 rfl (lv_at hl 0 rfl) ?_
                refine mm_get (v := .ref (ad 2)) hK hx hb hown lg_Mod_16 hP 0 rfl rfl d_Mod_bounded_97 ?_
                refine lv_iload_n hx hb d_Mod_bounded_100 rfl (lv_at hl 2 rfl) ?_
                refine mm_iald hK hx hb hP 3 rfl (by decide) (i := k) (by omega) d_Mod_bounded_101 ?_
                refine mm_iald hK hx hb hP 13 rfl (by decide) (i := kF k) (by omega) d_Mod_bounded_102 ?_
                refine mm_ti (y := nI (RG (kF k))) (congrArg nI (hrg _ (by omega))) ?_
                refine lv_aload_n hx hb d_Mod_bounded_103 rfl (lv_at hl 0 rfl) ?_
                refine mm_get (v := .ref (ad 1)) hK hx hb hown lg_Mod_13 hP 0 rfl rfl d_Mod_bounded_104 ?_
                refine lv_iload_n hx hb d_Mod_bounded_107 rfl (lv_at hl 2 rfl) ?_
                refine mm_iald hK hx hb hP 2 rfl (by decide) (i := k) (by omega) d_Mod_bounded_108 ?_
                refine lv_ishr hx hb d_Mod_bounded_109 ?_
                refine lv_iconst hx hb d_Mod_bounded_110 ci_1 ?_
                refine lv_iand hx hb d_Mod_bounded_111 ?_
                refine mm_ti (y := nI (if (RG (kF k)).testBit (kW k) = true then 1 else 0)) (bit8 _ (hG _ (by omega)).2.2.2.1 _ a2) ?_
                have z2 : (if (RG (kF k)).testBit (kW k) = true then 1 else 0) < 8 := by split <;> decide
                refine lv_if_ne hx hb d_Mod_bounded_112 (tgt := 117) (by decide) (fun c112 => ?_) (fun c112 => ?_)
                · have c112 : (if (RG (kF k)).testBit (kW k) = true then 1 else 0) ≠ 0 := nb_znet (by omega) c112
                  refine lv_aload_n hx hb d_Mod_bounded_117 rfl (lv_at hl 0 rfl) ?_
                  refine mm_get (v := .ref (ad 10)) hK hx hb hown lg_Mod_41 hP 0 rfl rfl d_Mod_bounded_118 ?_
                  refine lv_aload_n hx hb d_Mod_bounded_121 rfl (lv_at hl 0 rfl) ?_
                  refine mm_get (v := .ref (ad 2)) hK hx hb hown lg_Mod_16 hP 0 rfl rfl d_Mod_bounded_122 ?_
                  refine lv_iload_n hx hb d_Mod_bounded_125 rfl (lv_at hl 2 rfl) ?_
                  refine mm_iald hK hx hb hP 3 rfl (by decide) (i := k) (by omega) d_Mod_bounded_126 ?_
                  refine lv_iconst hx hb d_Mod_bounded_127 ci_1 ?_
                  refine mm_ti (y := bI true) (by decide) ?_
                  refine mm_zast (x := true) hK hx hb hP hD hS 11 rfl (by decide) (i := kF k) (by omega) d_Mod_bounded_128 (fun H locs hP hD hS => ?_)
                  have hP : va_P G.1 cls_all (TW G o ad nf wt np kK kW kF kS kL kE tm pr ga ho (va_up gg (kF k) true) fr10 rg15 re) H := hP
                  have hD : va_D A (TW G o ad nf wt np kK kW kF kS kL kE tm pr ga ho (va_up gg (kF k) true) fr10 rg15 re) := hD
                  refine lv_aload_n hx hb d_Mod_bounded_129 rfl (lv_at hl 0 rfl) ?_
                  refine mm_get (v := .ref (ad 10)) hK hx hb hown lg_Mod_41 hP 0 rfl rfl d_Mod_bounded_130 ?_
                  refine lv_aload_n hx hb d_Mod_bounded_133 rfl (lv_at hl 0 rfl) ?_
                  refine mm_get (v := .ref (ad 3)) hK hx hb hown lg_Mod_19 hP 0 rfl rfl d_Mod_bounded_134 ?_
                  refine lv_iload_n hx hb d_Mod_bounded_137 rfl (lv_at hl 2 rfl) ?_
                  refine mm_iald hK hx hb hP 4 rfl (by decide) (i := k) (by omega) d_Mod_bounded_138 ?_
                  refine lv_iconst hx hb d_Mod_bounded_139 ci_1 ?_
                  refine mm_ti (y := bI true) (by decide) ?_
                  refine mm_zast (x := true) hK hx hb hP hD hS 11 rfl (by decide) (i := kS k) (by omega) d_Mod_bounded_140 (fun H locs hP hD hS => ?_)
                  have hP : va_P G.1 cls_all (TW G o ad nf wt np kK kW kF kS kL kE tm pr ga ho (va_up (va_up gg (kF k) true) (kS k) true) fr10 rg15 re) H := hP
                  have hD : va_D A (TW G o ad nf wt np kK kW kF kS kL kE tm pr ga ho (va_up (va_up gg (kF k) true) (kS k) true) fr10 rg15 re) := hD
                  refine lv_iinc (k := 2) (v := nI k - 1) (lv' := [(2, .int (nI k - 1)), (0, .ref o), (1, .int (nI x1))]) hx hb d_Mod_bounded_141 hl rfl (decE _) (by decide) rfl (fun ls hl => ?_)
                  refine lv_goto hx hb d_Mod_bounded_144 (tgt := 58) (by decide) ?_
                  exact ih58 (k, (va_up (va_up gg (kF k) true) (kS k) true)) _ _ _ ⟨(lv_sub hl [1, 2, 0] rfl), hP, hD, hS, (by omega), (bd_in hI c68 (by rw [(hG k (by omega)).2.2.2.2]; exact cl_2 (by omega) (fun h6 => by first | exact absurd h6 c89 | (cases hz : (RG (kF k)).testBit (kW k); (rw [hz] at c112; exact absurd rfl c112); rfl))) q1 q2)⟩ (by (try dsimp only); omega)
                · have c112 : (if (RG (kF k)).testBit (kW k) = true then 1 else 0) = 0 := nb_znef (by omega) c112
                  refine lv_iconst hx hb d_Mod_bounded_115 ci_0 ?_
                  exact mm_zrQ false (by first | rfl | decide) hx hb hr hk hS d_Mod_bounded_116 ⟨⟨_, _, _, hP⟩, by unfold bdB; rw [c5, cN_nI (by omega), decide_eq_true c21, bd_no hI c68 (by rw [(hG k (by omega)).2.2.2.2]; exact cl_3 c89 (by cases hz : (RG (kF k)).testBit (kW k); rfl; rw [hz] at c112; cases c112))]; rfl⟩
      · have c31 : k < 12 := nb_gef (by omega) (by omega) c31
        refine lv_aload_n hx hb d_Mod_bounded_34 rfl (lv_at hl 0 rfl) ?_
        refine mm_get (v := .ref (ad 10)) hK hx hb hown lg_Mod_41 hP 0 rfl rfl d_Mod_bounded_35 ?_
        refine lv_iload_n hx hb d_Mod_bounded_38 rfl (lv_at hl 2 rfl) ?_
        refine lv_iload_n hx hb d_Mod_bounded_39 rfl (lv_at hl 2 rfl) ?_
        refine lv_iload_n hx hb d_Mod_bounded_40 rfl (lv_at hl 1 rfl) ?_
        refine lv_icmp_ne hx hb d_Mod_bounded_41 (tgt := 48) (by decide) (fun c41 => ?_) (fun c41 => ?_)
        · have c41 : k ≠ x1 := nb_net (by omega) (by omega) c41
          refine lv_iconst hx hb d_Mod_bounded_48 ci_0 ?_
          refine mm_ti (y := bI false) (by decide) ?_
          refine mm_zast (x := false) hK hx hb hP hD hS 11 rfl (by decide) (i := k) (by omega) d_Mod_bounded_49 (fun H locs hP hD hS => ?_)
          have hP : va_P G.1 cls_all (TW G o ad nf wt np kK kW kF kS kL kE tm pr ga ho (va_up g k false) fr10 rg15 re) H := hP
          have hD : va_D A (TW G o ad nf wt np kK kW kF kS kL kE tm pr ga ho (va_up g k false) fr10 rg15 re) := hD
          refine lv_iinc (k := 2) (v := nI (k + 1)) (lv' := [(2, .int (nI (k + 1))), (0, .ref o), (1, .int (nI x1))]) hx hb d_Mod_bounded_50 hl rfl (inc1 _) (by decide) rfl (fun ls hl => ?_)
          refine lv_goto hx hb d_Mod_bounded_53 (tgt := 28) (by decide) ?_
          exact ih28 ((k + 1), (va_up g k false)) _ _ _ ⟨(lv_sub hl [1, 2, 0] rfl), hP, hD, hS, (by omega), (up_ext (F := fun j => decide (j = x1)) hg (by first | exact (decide_eq_true c41).symm | exact (decide_eq_false c41).symm))⟩ (by (try dsimp only); omega)
        · have c41 : k = x1 := nb_nef (by omega) (by omega) c41
          refine lv_iconst hx hb d_Mod_bounded_44 ci_1 ?_
          refine lv_goto hx hb d_Mod_bounded_45 (tgt := 49) (by decide) ?_
          refine mm_ti (y := bI true) (by decide) ?_
          refine mm_zast (x := true) hK hx hb hP hD hS 11 rfl (by decide) (i := k) (by omega) d_Mod_bounded_49 (fun H locs hP hD hS => ?_)
          have hP : va_P G.1 cls_all (TW G o ad nf wt np kK kW kF kS kL kE tm pr ga ho (va_up g k true) fr10 rg15 re) H := hP
          have hD : va_D A (TW G o ad nf wt np kK kW kF kS kL kE tm pr ga ho (va_up g k true) fr10 rg15 re) := hD
          refine lv_iinc (k := 2) (v := nI (k + 1)) (lv' := [(2, .int (nI (k + 1))), (0, .ref o), (1, .int (nI x1))]) hx hb d_Mod_bounded_50 hl rfl (inc1 _) (by decide) rfl (fun ls hl => ?_)
          refine lv_goto hx hb d_Mod_bounded_53 (tgt := 28) (by decide) ?_
          exact ih28 ((k + 1), (va_up g k true)) _ _ _ ⟨(lv_sub hl [1, 2, 0] rfl), hP, hD, hS, (by omega), (up_ext (F := fun j => decide (j = x1)) hg (by first | exact (decide_eq_true c41).symm | exact (decide_eq_false c41).symm))⟩ (by (try dsimp only); omega)
    · have c21 : FR x1 &&& (7 - RG x1) ≠ 0 := nb_zeqf (by omega) c21
      refine lv_iconst hx hb d_Mod_bounded_24 ci_0 ?_
      exact mm_zrQ false (by first | rfl | decide) hx hb hr hk hS d_Mod_bounded_25 ⟨⟨_, _, _, hP⟩, by unfold bdB; rw [c5, cN_nI (by omega), decide_eq_false c21]; rfl⟩
set_option maxHeartbeats 4000000 in
set_option maxRecDepth 100000 in
theorem c_Mod_empty (l : Launch) (G : mm_G) (o : Nat) (ad : Nat → Nat) (nf : Nat) (wt : Bool) (np : Nat) (kK kW kF kS kL kE tm pr ga : Nat → Nat) (ho : Nat → Int64) (pa : Nat → Bool) (fr rg re : Nat → Nat) {A : Nat → Prop} (hD : va_D A (TW G o ad nf wt np kK kW kF kS kL kE tm pr ga ho pa fr rg re)) : Met l y_Mod_empty [.code y_Mod_empty b_Mod_empty 2 none] { frames := 0, cells := 0, slots := 0, locals := 0 } (mm_Pre G [.ref o] (fun H => va_P G.1 cls_all (TW G o ad nf wt np kK kW kF kS kL kE tm pr ga ho pa fr rg re) H)) (mm_Qv (fun H => ∃ ga9, (∀ j, j < 3 → ga9 j = 0) ∧ va_P G.1 cls_all (TW G o ad nf wt 0 kK kW kF kS kL kE tm pr ga9 ho pa fr rg re) H) A) 0 0 A := by
  refine mm_of (by decide) (Nat.le_of_ble_eq_true rfl) ?_
  intro p e s m below meth c ls hx hb hr hk hml hown hnm hK hP hl
  have hl : lv_has ls 2 [(0, .ref o)] := hl
  have hS : va_S A s.heap s.heap [] := va_S.rf
  refine lv_aload_n hx hb d_Mod_empty_0 rfl (lv_at hl 0 rfl) ?_
  refine lv_iconst hx hb d_Mod_empty_1 ci_0 ?_
  refine mm_put (v := .int (nI 0)) hK hx hb hown lp_Mod_96 hP hD hS 0 rfl rfl rfl (Nat.le_of_ble_eq_true rfl) d_Mod_empty_2 (fun H locs hP hD hS => ?_)
  have hP : va_P G.1 cls_all (TW G o ad nf wt 0 kK kW kF kS kL kE tm pr ga ho pa fr rg re) H := hP
  have hD : va_D A (TW G o ad nf wt 0 kK kW kF kS kL kE tm pr ga ho pa fr rg re) := hD
  refine lv_iconst hx hb d_Mod_empty_5 ci_0 ?_
  refine lv_istore_n (lv' := [(1, .int (nI 0)), (0, .ref o)]) hx hb d_Mod_empty_6 rfl hl (by decide) rfl (fun ls hl => ?_)
  refine mm_loop (σ := (Nat) × (Nat → Nat)) (fun x ls H locs => match x with | (k, g) => lv_has ls 2 [(0, .ref o), (1, .int (nI k))] ∧ va_P G.1 cls_all (TW G o ad nf wt 0 kK kW kF kS kL kE tm pr g ho pa fr rg re) H ∧ va_D A (TW G o ad nf wt 0 kK kW kF kS kL kE tm pr g ho pa fr rg re) ∧ va_S A s.heap H locs ∧ (k ≤ 3) ∧ (∀ j, j < k → g j = 0)) (fun x => match x with | (k, g) => 3 - k) ?_ (0, ga) _ _ _ ⟨(lv_sub hl [1, 0] rfl), hP, hD, hS, (by omega), (fun j hj => absurd hj (Nat.not_lt_zero _))⟩
  rintro ⟨k, g⟩ ls H locs ⟨hl, hP, hD, hS, hk9, hg⟩ ih7
  refine lv_iload_n hx hb d_Mod_empty_7 rfl (lv_at hl 1 rfl) ?_
  refine lv_iconst hx hb d_Mod_empty_8 ci_3 ?_
  refine lv_icmp_ge hx hb d_Mod_empty_9 (tgt := 25) (by decide) (fun c9 => ?_) (fun c9 => ?_)
  · have c9 : k ≥ 3 := nb_get (by omega) (by omega) c9
    exact mm_vrQ hx hb hr hk hS d_Mod_empty_25 ⟨_, fun j hj => hg j (by omega), hP⟩
  · have c9 : k < 3 := nb_gef (by omega) (by omega) c9
    refine lv_aload_n hx hb d_Mod_empty_12 rfl (lv_at hl 0 rfl) ?_
    refine mm_get (v := .ref (ad 8)) hK hx hb hown lg_Mod_34 hP 0 rfl rfl d_Mod_empty_13 ?_
    refine lv_iload_n hx hb d_Mod_empty_16 rfl (lv_at hl 1 rfl) ?_
    refine lv_iconst hx hb d_Mod_empty_17 ci_0 ?_
    refine mm_iastN (x := 0) hK hx hb hP hD hS 9 rfl (by decide) (i := k) (by omega) d_Mod_empty_18 (fun H locs hP hD hS => ?_)
    have hP : va_P G.1 cls_all (TW G o ad nf wt 0 kK kW kF kS kL kE tm pr (va_up g k 0) ho pa fr rg re) H := hP
    have hD : va_D A (TW G o ad nf wt 0 kK kW kF kS kL kE tm pr (va_up g k 0) ho pa fr rg re) := hD
    refine lv_iinc (k := 1) (v := nI (k + 1)) (lv' := [(1, .int (nI (k + 1))), (0, .ref o)]) hx hb d_Mod_empty_19 hl rfl (inc1 _) (by decide) rfl (fun ls hl => ?_)
    refine lv_goto hx hb d_Mod_empty_22 (tgt := 7) (by decide) ?_
    exact ih7 ((k + 1), (va_up g k 0)) _ _ _ ⟨(lv_sub hl [1, 0] rfl), hP, hD, hS, (by omega), (up_ext (F := fun _ => 0) hg rfl)⟩ (by (try dsimp only); omega)
set_option maxHeartbeats 4000000 in
set_option maxRecDepth 100000 in
theorem c_Mod_watch (l : Launch) (G : mm_G) (o : Nat) (ad : Nat → Nat) (nf : Nat) (wt : Bool) (np : Nat) (kK kW kF kS kL kE tm pr ga : Nat → Nat) (ho : Nat → Int64) (pa : Nat → Bool) (fr rg re : Nat → Nat) {A : Nat → Prop} (hD : va_D A (TW G o ad nf wt np kK kW kF kS kL kE tm pr ga ho pa fr rg re)) (hn : nf ≤ 12) : Met l y_Mod_watch [.code y_Mod_watch b_Mod_watch 1 (some .boolean)] { frames := 1, cells := 0, slots := 0, locals := 21 } (mm_Pre G [.ref o] (fun H => va_P G.1 cls_all (TW G o ad nf wt np kK kW kF kS kL kE tm pr ga ho pa fr rg re) H)) (mm_Qi (fun r H => ((wt = false ∧ nf ≠ 0) → r = bI true ∧ ∃ ga9, (∀ j, j < 3 → ga9 j = 0) ∧ va_P G.1 cls_all (TW G o ad nf true 0 kK kW kF kS kL kE tm pr ga9 ho pa fr rg re) H) ∧ (¬ (wt = false ∧ nf ≠ 0) → r = bI false ∧ va_P G.1 cls_all (TW G o ad nf wt np kK kW kF kS kL kE tm pr ga ho pa fr rg re) H)) A) 0 0 A := by
  refine mm_of (by decide) (Nat.le_of_ble_eq_true rfl) ?_
  intro p e s m below meth c ls hx hb hr hk hml hown hnm hK hP hl
  have hl : lv_has ls 1 [(0, .ref o)] := hl
  have hS : va_S A s.heap s.heap [] := va_S.rf
  refine lv_aload_n hx hb d_Mod_watch_0 rfl (lv_at hl 0 rfl) ?_
  refine mm_get (v := .int (bI wt)) hK hx hb hown lg_Mod_58 hP 0 rfl rfl d_Mod_watch_1 ?_
  refine mm_ifneB hx hb d_Mod_watch_4 (tgt := 14) (by decide) (fun c4 => ?_) (fun c4 => ?_)
  · refine lv_iconst hx hb d_Mod_watch_14 ci_0 ?_
    exact mm_zrQ false (by first | rfl | decide) hx hb hr hk hS d_Mod_watch_15 ⟨fun h => absurd h (fun h => by first | exact absurd (c4.symm.trans h.1) (by decide) | exact h.2 c11), fun _ => ⟨rfl, hP⟩⟩
  · refine lv_aload_n hx hb d_Mod_watch_7 rfl (lv_at hl 0 rfl) ?_
    refine mm_get (v := .int (nI nf)) hK hx hb hown lg_Mod_54 hP 0 rfl rfl d_Mod_watch_8 ?_
    refine lv_if_ne hx hb d_Mod_watch_11 (tgt := 16) (by decide) (fun c11 => ?_) (fun c11 => ?_)
    · have c11 : nf ≠ 0 := nb_znet (by omega) c11
      refine lv_aload_n hx hb d_Mod_watch_16 rfl (lv_at hl 0 rfl) ?_
      refine mm_qv (mm_runV hK ⟨hx, hb, hml, hown⟩ lk_Mod_99 (c_Mod_empty l G o ad nf wt np kK kW kF kS kL kE tm pr ga ho pa fr rg re hD ) ⟨rfl, rfl, by decide, by decide⟩ (mm_rc hK hP 0 rfl rfl) hP rfl hl.1 rfl (Nat.le_of_ble_eq_true rfl) ⟨by decide, by decide⟩ d_Mod_watch_17) hS (fun q h => h) (fun H locs e17 hz1 hk1 hS => ?_)
      obtain ⟨ga17, hga, hP⟩ := e17
      have hD : va_D A (TW G o ad nf wt 0 kK kW kF kS kL kE tm pr ga17 ho pa fr rg re) := mD hD rfl
      refine lv_aload_n hx hb d_Mod_watch_20 rfl (lv_at hl 0 rfl) ?_
      refine lv_iconst hx hb d_Mod_watch_21 ci_1 ?_
      refine mm_ti (y := bI true) (by decide) ?_
      refine mm_put (v := .int (bI true)) hK hx hb hown lp_Mod_58 hP hD hS 0 rfl (bI_nar _) (bI_fit _) (Nat.le_of_ble_eq_true rfl) d_Mod_watch_22 (fun H locs hP hD hS => ?_)
      have hP : va_P G.1 cls_all (TW G o ad nf true 0 kK kW kF kS kL kE tm pr ga17 ho pa fr rg re) H := hP
      have hD : va_D A (TW G o ad nf true 0 kK kW kF kS kL kE tm pr ga17 ho pa fr rg re) := hD
      refine lv_iconst hx hb d_Mod_watch_25 ci_1 ?_
      exact mm_zrQ true (by first | rfl | decide) hx hb hr hk hS d_Mod_watch_26 ⟨fun _ => ⟨rfl, _, hga, hP⟩, fun h => absurd ⟨c4, c11⟩ h⟩
    · have c11 : nf = 0 := nb_znef (by omega) c11
      refine lv_iconst hx hb d_Mod_watch_14 ci_0 ?_
      exact mm_zrQ false (by first | rfl | decide) hx hb hr hk hS d_Mod_watch_15 ⟨fun h => absurd h (fun h => by first | exact absurd (c4.symm.trans h.1) (by decide) | exact h.2 c11), fun _ => ⟨rfl, hP⟩⟩
set_option maxHeartbeats 4000000 in
set_option maxRecDepth 100000 in
theorem c_Mod_gather (l : Launch) (G : mm_G) (o : Nat) (ad : Nat → Nat) (nf : Nat) (wt : Bool) (np : Nat) (kK kW kF kS kL kE tm pr ga : Nat → Nat) (ho : Nat → Int64) (pa : Nat → Bool) (fr rg re : Nat → Nat) {A : Nat → Prop} (hD : va_D A (TW G o ad nf wt np kK kW kF kS kL kE tm pr ga ho pa fr rg re)) (a1 a2 a3 : Int32) (hg : ∀ j, j < 3 → ga j < 65536) : Met l y_Mod_gather [.code y_Mod_gather b_Mod_gather 5 (some .boolean)] { frames := 0, cells := 0, slots := 0, locals := 0 } (mm_Pre G [.ref o, .int a1, .int a2, .int a3] (fun H => va_P G.1 cls_all (TW G o ad nf wt np kK kW kF kS kL kE tm pr ga ho pa fr rg re) H)) (mm_Qi (fun r H => (gaP wt a1 a2 a3 → r = bI (decide (ga (cN a1) / 2 ^ (cN a2 + 4 * cN a3) % 2 ≠ 1)) ∧ va_P G.1 cls_all (TW G o ad nf wt np kK kW kF kS kL kE tm pr (va_up ga (cN a1) (ga (cN a1) ||| 2 ^ (cN a2 + 4 * cN a3))) ho pa fr rg re) H) ∧ (¬ gaP wt a1 a2 a3 → r = bI false ∧ va_P G.1 cls_all (TW G o ad nf wt np kK kW kF kS kL kE tm pr ga ho pa fr rg re) H)) A) 0 0 A := by
  refine mm_of (by decide) (Nat.le_of_ble_eq_true rfl) ?_
  intro p e s m below meth c ls hx hb hr hk hml hown hnm hK hP hl
  have hl : lv_has ls 5 [(0, .ref o), (1, .int a1), (2, .int a2), (3, .int a3)] := hl
  have hS : va_S A s.heap s.heap [] := va_S.rf
  refine lv_aload_n hx hb d_Mod_gather_0 rfl (lv_at hl 0 rfl) ?_
  refine mm_get (v := .int (bI wt)) hK hx hb hown lg_Mod_58 hP 0 rfl rfl d_Mod_gather_1 ?_
  refine mm_ifeqB hx hb d_Mod_gather_4 (tgt := 34) (by decide) (fun c4 => ?_) (fun c4 => ?_)
  · refine lv_iconst hx hb d_Mod_gather_34 ci_0 ?_
    exact mm_zrQ false (by first | rfl | decide) hx hb hr hk hS d_Mod_gather_35 ⟨fun h => absurd h (fun h => by obtain ⟨h1, ⟨h2, h3⟩, ⟨h4, h5⟩, h6, h7⟩ := h; first | omega | exact absurd (c4.symm.trans h1) (by decide)), fun _ => ⟨rfl, hP⟩⟩
  · refine lv_iload_n hx hb d_Mod_gather_7 rfl (lv_at hl 1 rfl) ?_
    refine lv_if_lt hx hb d_Mod_gather_8 (tgt := 34) (by decide) (fun c8 => ?_) (fun c8 => ?_)
    · rw [Int32.lt_iff_toInt_lt, Int32.toInt_zero] at c8
      refine lv_iconst hx hb d_Mod_gather_34 ci_0 ?_
      exact mm_zrQ false (by first | rfl | decide) hx hb hr hk hS d_Mod_gather_35 ⟨fun h => absurd h (fun h => by obtain ⟨h1, ⟨h2, h3⟩, ⟨h4, h5⟩, h6, h7⟩ := h; first | omega | exact absurd (c4.symm.trans h1) (by decide)), fun _ => ⟨rfl, hP⟩⟩
    · rw [Int32.lt_iff_toInt_lt, Int32.toInt_zero] at c8
      refine lv_iload_n hx hb d_Mod_gather_11 rfl (lv_at hl 1 rfl) ?_
      refine lv_iconst hx hb d_Mod_gather_12 ci_2 ?_
      refine lv_icmp_gt hx hb d_Mod_gather_13 (tgt := 34) (by decide) (fun c13 => ?_) (fun c13 => ?_)
      · rw [Int32.lt_iff_toInt_lt, nI_toInt (n := 2) (by omega)] at c13
        refine lv_iconst hx hb d_Mod_gather_34 ci_0 ?_
        exact mm_zrQ false (by first | rfl | decide) hx hb hr hk hS d_Mod_gather_35 ⟨fun h => absurd h (fun h => by obtain ⟨h1, ⟨h2, h3⟩, ⟨h4, h5⟩, h6, h7⟩ := h; first | omega | exact absurd (c4.symm.trans h1) (by decide)), fun _ => ⟨rfl, hP⟩⟩
      · rw [Int32.lt_iff_toInt_lt, nI_toInt (n := 2) (by omega)] at c13
        refine lv_iload_n hx hb d_Mod_gather_16 rfl (lv_at hl 2 rfl) ?_
        refine lv_if_lt hx hb d_Mod_gather_17 (tgt := 34) (by decide) (fun c17 => ?_) (fun c17 => ?_)
        · rw [Int32.lt_iff_toInt_lt, Int32.toInt_zero] at c17
          refine lv_iconst hx hb d_Mod_gather_34 ci_0 ?_
          exact mm_zrQ false (by first | rfl | decide) hx hb hr hk hS d_Mod_gather_35 ⟨fun h => absurd h (fun h => by obtain ⟨h1, ⟨h2, h3⟩, ⟨h4, h5⟩, h6, h7⟩ := h; first | omega | exact absurd (c4.symm.trans h1) (by decide)), fun _ => ⟨rfl, hP⟩⟩
        · rw [Int32.lt_iff_toInt_lt, Int32.toInt_zero] at c17
          refine lv_iload_n hx hb d_Mod_gather_20 rfl (lv_at hl 2 rfl) ?_
          refine lv_iconst hx hb d_Mod_gather_21 ci_3 ?_
          refine lv_icmp_gt hx hb d_Mod_gather_22 (tgt := 34) (by decide) (fun c22 => ?_) (fun c22 => ?_)
          · rw [Int32.lt_iff_toInt_lt, nI_toInt (n := 3) (by omega)] at c22
            refine lv_iconst hx hb d_Mod_gather_34 ci_0 ?_
            exact mm_zrQ false (by first | rfl | decide) hx hb hr hk hS d_Mod_gather_35 ⟨fun h => absurd h (fun h => by obtain ⟨h1, ⟨h2, h3⟩, ⟨h4, h5⟩, h6, h7⟩ := h; first | omega | exact absurd (c4.symm.trans h1) (by decide)), fun _ => ⟨rfl, hP⟩⟩
          · rw [Int32.lt_iff_toInt_lt, nI_toInt (n := 3) (by omega)] at c22
            refine lv_iload_n hx hb d_Mod_gather_25 rfl (lv_at hl 3 rfl) ?_
            refine lv_if_lt hx hb d_Mod_gather_26 (tgt := 34) (by decide) (fun c26 => ?_) (fun c26 => ?_)
            · rw [Int32.lt_iff_toInt_lt, Int32.toInt_zero] at c26
              refine lv_iconst hx hb d_Mod_gather_34 ci_0 ?_
              exact mm_zrQ false (by first | rfl | decide) hx hb hr hk hS d_Mod_gather_35 ⟨fun h => absurd h (fun h => by obtain ⟨h1, ⟨h2, h3⟩, ⟨h4, h5⟩, h6, h7⟩ := h; first | omega | exact absurd (c4.symm.trans h1) (by decide)), fun _ => ⟨rfl, hP⟩⟩
            · rw [Int32.lt_iff_toInt_lt, Int32.toInt_zero] at c26
              refine lv_iload_n hx hb d_Mod_gather_29 rfl (lv_at hl 3 rfl) ?_
              refine lv_iconst hx hb d_Mod_gather_30 ci_3 ?_
              refine lv_icmp_le hx hb d_Mod_gather_31 (tgt := 36) (by decide) (fun c31 => ?_) (fun c31 => ?_)
              · rw [Int32.le_iff_toInt_le, nI_toInt (n := 3) (by omega)] at c31
                obtain ⟨x1, rfl, y1⟩ := vn_of (v := a1) (by omega) (by omega)
                obtain ⟨x2, rfl, y2⟩ := v3_of (v := a2) (by omega) (by omega)
                obtain ⟨x3, rfl, y3⟩ := v3_of (v := a3) (by omega) (by omega)
                have g1 := hg x1 (by omega)
                refine lv_aload_n hx hb d_Mod_gather_36 rfl (lv_at hl 0 rfl) ?_
                refine mm_get (v := .ref (ad 8)) hK hx hb hown lg_Mod_34 hP 0 rfl rfl d_Mod_gather_37 ?_
                refine lv_iload_n hx hb d_Mod_gather_40 rfl (lv_at hl 1 rfl) ?_
                refine mm_iald hK hx hb hP 9 rfl (by decide) (i := x1) (by omega) d_Mod_gather_41 ?_
                refine lv_iload_n hx hb d_Mod_gather_42 rfl (lv_at hl 2 rfl) ?_
                refine lv_iconst hx hb d_Mod_gather_43 ci_4 ?_
                refine lv_iload_n hx hb d_Mod_gather_44 rfl (lv_at hl 3 rfl) ?_
                refine lv_imul hx hb d_Mod_gather_45 ?_
                refine mm_ti (pk_mul _ _) ?_
                refine lv_iadd hx hb d_Mod_gather_46 ?_
                refine mm_ti (nI_add _ _) ?_
                refine lv_ishr hx hb d_Mod_gather_47 ?_
                refine lv_iconst hx hb d_Mod_gather_48 ci_1 ?_
                refine lv_iand hx hb d_Mod_gather_49 ?_
                refine mm_ti (y := nI (ga x1 / 2 ^ (x2 + 4 * x3) % 2)) (pb_lem g1 (by omega)) ?_
                refine lv_iconst hx hb d_Mod_gather_50 ci_1 ?_
                refine lv_icmp_ne hx hb d_Mod_gather_51 (tgt := 58) (by decide) (fun c51 => ?_) (fun c51 => ?_)
                · have c51 : ga x1 / 2 ^ (x2 + 4 * x3) % 2 ≠ 1 := nb_net (by omega) (by omega) c51
                  refine lv_iconst hx hb d_Mod_gather_58 ci_0 ?_
                  refine mm_ti (y := bI false) (by decide) ?_
                  refine lv_istore (lv' := [(4, .int (bI false)), (0, .ref o), (1, .int (nI x1)), (2, .int (nI x2)), (3, .int (nI x3))]) hx hb d_Mod_gather_59 hl (by decide) rfl (fun ls hl => ?_)
                  refine lv_aload_n hx hb d_Mod_gather_61 rfl (lv_at hl 1 rfl) ?_
                  refine mm_get (v := .ref (ad 8)) hK hx hb hown lg_Mod_34 hP 0 rfl rfl d_Mod_gather_62 ?_
                  refine lv_iload_n hx hb d_Mod_gather_65 rfl (lv_at hl 2 rfl) ?_
                  refine lv_aload_n hx hb d_Mod_gather_66 rfl (lv_at hl 1 rfl) ?_
                  refine mm_get (v := .ref (ad 8)) hK hx hb hown lg_Mod_34 hP 0 rfl rfl d_Mod_gather_67 ?_
                  refine lv_iload_n hx hb d_Mod_gather_70 rfl (lv_at hl 2 rfl) ?_
                  refine mm_iald hK hx hb hP 9 rfl (by decide) (i := x1) (by omega) d_Mod_gather_71 ?_
                  refine lv_iconst hx hb d_Mod_gather_72 ci_1 ?_
                  refine lv_iload_n hx hb d_Mod_gather_73 rfl (lv_at hl 3 rfl) ?_
                  refine lv_iconst hx hb d_Mod_gather_74 ci_4 ?_
                  refine lv_iload_n hx hb d_Mod_gather_75 rfl (lv_at hl 4 rfl) ?_
                  refine lv_imul hx hb d_Mod_gather_76 ?_
                  refine mm_ti (pk_mul _ _) ?_
                  refine lv_iadd hx hb d_Mod_gather_77 ?_
                  refine mm_ti (nI_add _ _) ?_
                  refine lv_ishl hx hb d_Mod_gather_78 ?_
                  refine mm_ti (y := nI (2 ^ (x2 + 4 * x3))) (shl16 _ (by omega)) ?_
                  refine lv_ior hx hb d_Mod_gather_79 ?_
                  refine mm_ti (y := nI (ga x1 ||| 2 ^ (x2 + 4 * x3))) (nx_or _ _) ?_
                  refine mm_iastN (x := ga x1 ||| 2 ^ (x2 + 4 * x3)) hK hx hb hP hD hS 9 rfl (by decide) (i := x1) (by omega) d_Mod_gather_80 (fun H locs hP hD hS => ?_)
                  have hP : va_P G.1 cls_all (TW G o ad nf wt np kK kW kF kS kL kE tm pr (va_up ga x1 (ga x1 ||| 2 ^ (x2 + 4 * x3))) ho pa fr rg re) H := hP
                  have hD : va_D A (TW G o ad nf wt np kK kW kF kS kL kE tm pr (va_up ga x1 (ga x1 ||| 2 ^ (x2 + 4 * x3))) ho pa fr rg re) := hD
                  refine lv_iload hx hb d_Mod_gather_81 (lv_at hl 0 rfl) ?_
                  refine mm_ifneB hx hb d_Mod_gather_83 (tgt := 90) (by decide) (fun h9 => absurd h9 (fun h => by cases h)) (fun c83 => ?_)
                  refine lv_iconst hx hb d_Mod_gather_86 ci_1 ?_
                  refine lv_goto hx hb d_Mod_gather_87 (tgt := 91) (by decide) ?_
                  exact mm_zrQ true (by first | rfl | decide) hx hb hr hk hS d_Mod_gather_91 ⟨fun _ => ⟨by rw [cN_nI (by omega), cN_nI (by omega), cN_nI (by omega)]; exact bI_t (by omega), by rw [cN_nI (by omega), cN_nI (by omega), cN_nI (by omega)]; exact hP⟩, fun h => absurd ⟨c4, ⟨by omega, by omega⟩, ⟨by omega, by omega⟩, by omega, by omega⟩ h⟩
                · have c51 : ga x1 / 2 ^ (x2 + 4 * x3) % 2 = 1 := nb_nef (by omega) (by omega) c51
                  refine lv_iconst hx hb d_Mod_gather_54 ci_1 ?_
                  refine lv_goto hx hb d_Mod_gather_55 (tgt := 59) (by decide) ?_
                  refine mm_ti (y := bI true) (by decide) ?_
                  refine lv_istore (lv' := [(4, .int (bI true)), (0, .ref o), (1, .int (nI x1)), (2, .int (nI x2)), (3, .int (nI x3))]) hx hb d_Mod_gather_59 hl (by decide) rfl (fun ls hl => ?_)
                  refine lv_aload_n hx hb d_Mod_gather_61 rfl (lv_at hl 1 rfl) ?_
                  refine mm_get (v := .ref (ad 8)) hK hx hb hown lg_Mod_34 hP 0 rfl rfl d_Mod_gather_62 ?_
                  refine lv_iload_n hx hb d_Mod_gather_65 rfl (lv_at hl 2 rfl) ?_
                  refine lv_aload_n hx hb d_Mod_gather_66 rfl (lv_at hl 1 rfl) ?_
                  refine mm_get (v := .ref (ad 8)) hK hx hb hown lg_Mod_34 hP 0 rfl rfl d_Mod_gather_67 ?_
                  refine lv_iload_n hx hb d_Mod_gather_70 rfl (lv_at hl 2 rfl) ?_
                  refine mm_iald hK hx hb hP 9 rfl (by decide) (i := x1) (by omega) d_Mod_gather_71 ?_
                  refine lv_iconst hx hb d_Mod_gather_72 ci_1 ?_
                  refine lv_iload_n hx hb d_Mod_gather_73 rfl (lv_at hl 3 rfl) ?_
                  refine lv_iconst hx hb d_Mod_gather_74 ci_4 ?_
                  refine lv_iload_n hx hb d_Mod_gather_75 rfl (lv_at hl 4 rfl) ?_
                  refine lv_imul hx hb d_Mod_gather_76 ?_
                  refine mm_ti (pk_mul _ _) ?_
                  refine lv_iadd hx hb d_Mod_gather_77 ?_
                  refine mm_ti (nI_add _ _) ?_
                  refine lv_ishl hx hb d_Mod_gather_78 ?_
                  refine mm_ti (y := nI (2 ^ (x2 + 4 * x3))) (shl16 _ (by omega)) ?_
                  refine lv_ior hx hb d_Mod_gather_79 ?_
                  refine mm_ti (y := nI (ga x1 ||| 2 ^ (x2 + 4 * x3))) (nx_or _ _) ?_
                  refine mm_iastN (x := ga x1 ||| 2 ^ (x2 + 4 * x3)) hK hx hb hP hD hS 9 rfl (by decide) (i := x1) (by omega) d_Mod_gather_80 (fun H locs hP hD hS => ?_)
                  have hP : va_P G.1 cls_all (TW G o ad nf wt np kK kW kF kS kL kE tm pr (va_up ga x1 (ga x1 ||| 2 ^ (x2 + 4 * x3))) ho pa fr rg re) H := hP
                  have hD : va_D A (TW G o ad nf wt np kK kW kF kS kL kE tm pr (va_up ga x1 (ga x1 ||| 2 ^ (x2 + 4 * x3))) ho pa fr rg re) := hD
                  refine lv_iload hx hb d_Mod_gather_81 (lv_at hl 0 rfl) ?_
                  refine mm_ifneB hx hb d_Mod_gather_83 (tgt := 90) (by decide) (fun c83 => ?_) (fun h9 => absurd h9 (fun h => by cases h))
                  refine lv_iconst hx hb d_Mod_gather_90 ci_0 ?_
                  exact mm_zrQ false (by first | rfl | decide) hx hb hr hk hS d_Mod_gather_91 ⟨fun _ => ⟨by rw [cN_nI (by omega), cN_nI (by omega), cN_nI (by omega)]; exact bI_f (by omega), by rw [cN_nI (by omega), cN_nI (by omega), cN_nI (by omega)]; exact hP⟩, fun h => absurd ⟨c4, ⟨by omega, by omega⟩, ⟨by omega, by omega⟩, by omega, by omega⟩ h⟩
              · rw [Int32.le_iff_toInt_le, nI_toInt (n := 3) (by omega)] at c31
                refine lv_iconst hx hb d_Mod_gather_34 ci_0 ?_
                exact mm_zrQ false (by first | rfl | decide) hx hb hr hk hS d_Mod_gather_35 ⟨fun h => absurd h (fun h => by obtain ⟨h1, ⟨h2, h3⟩, ⟨h4, h5⟩, h6, h7⟩ := h; first | omega | exact absurd (c4.symm.trans h1) (by decide)), fun _ => ⟨rfl, hP⟩⟩
set_option maxHeartbeats 4000000 in
set_option maxRecDepth 100000 in
theorem c_Mod_stop (l : Launch) (G : mm_G) (o : Nat) (ad : Nat → Nat) (nf : Nat) (wt : Bool) (np : Nat) (kK kW kF kS kL kE tm pr ga : Nat → Nat) (ho : Nat → Int64) (pa : Nat → Bool) (fr rg re : Nat → Nat) {A : Nat → Prop} (hD : va_D A (TW G o ad nf wt np kK kW kF kS kL kE tm pr ga ho pa fr rg re)) (al : Bool) : Met l y_Mod_stop [.code y_Mod_stop b_Mod_stop 2 none] { frames := 1, cells := 0, slots := 0, locals := 21 } (mm_Pre G [.ref o, .int (bI al)] (fun H => va_P G.1 cls_all (TW G o ad nf wt np kK kW kF kS kL kE tm pr ga ho pa fr rg re) H)) (mm_Qv (fun H => ∃ ga9, (∀ j, j < 3 → ga9 j = 0) ∧ va_P G.1 cls_all (TW G o ad (if al = true then 0 else nf) false 0 kK kW kF kS kL kE tm pr ga9 ho pa fr rg re) H) A) 0 0 A := by
  refine mm_of (by decide) (Nat.le_of_ble_eq_true rfl) ?_
  intro p e s m below meth c ls hx hb hr hk hml hown hnm hK hP hl
  have hl : lv_has ls 2 [(0, .ref o), (1, .int (bI al))] := hl
  have hS : va_S A s.heap s.heap [] := va_S.rf
  refine lv_aload_n hx hb d_Mod_stop_0 rfl (lv_at hl 0 rfl) ?_
  refine lv_iconst hx hb d_Mod_stop_1 ci_0 ?_
  refine mm_ti (y := bI false) (by decide) ?_
  refine mm_put (v := .int (bI false)) hK hx hb hown lp_Mod_58 hP hD hS 0 rfl (bI_nar _) (bI_fit _) (Nat.le_of_ble_eq_true rfl) d_Mod_stop_2 (fun H locs hP hD hS => ?_)
  have hP : va_P G.1 cls_all (TW G o ad nf false np kK kW kF kS kL kE tm pr ga ho pa fr rg re) H := hP
  have hD : va_D A (TW G o ad nf false np kK kW kF kS kL kE tm pr ga ho pa fr rg re) := hD
  refine lv_aload_n hx hb d_Mod_stop_5 rfl (lv_at hl 0 rfl) ?_
  refine mm_qv (mm_runV hK ⟨hx, hb, hml, hown⟩ lk_Mod_99 (c_Mod_empty l G o ad nf false np kK kW kF kS kL kE tm pr ga ho pa fr rg re hD ) ⟨rfl, rfl, by decide, by decide⟩ (mm_rc hK hP 0 rfl rfl) hP rfl hl.1 rfl (Nat.le_of_ble_eq_true rfl) ⟨by decide, by decide⟩ d_Mod_stop_6) hS (fun q h => h) (fun H locs e6 hz1 hk1 hS => ?_)
  obtain ⟨ga6, hga, hP⟩ := e6
  have hD : va_D A (TW G o ad nf false 0 kK kW kF kS kL kE tm pr ga6 ho pa fr rg re) := mD hD rfl
  refine lv_aload_n hx hb d_Mod_stop_9 rfl (lv_at hl 0 rfl) ?_
  refine lv_iload_n hx hb d_Mod_stop_10 rfl (lv_at hl 1 rfl) ?_
  refine mm_ifeqB hx hb d_Mod_stop_11 (tgt := 18) (by decide) (fun c11 => ?_) (fun c11 => ?_)
  · refine lv_aload_n hx hb d_Mod_stop_18 rfl (lv_at hl 0 rfl) ?_
    refine mm_get (v := .int (nI nf)) hK hx hb hown lg_Mod_54 hP 0 rfl rfl d_Mod_stop_19 ?_
    refine mm_put (v := .int (nI nf)) hK hx hb hown lp_Mod_54 hP hD hS 0 rfl rfl rfl (Nat.le_of_ble_eq_true rfl) d_Mod_stop_22 (fun H locs hP hD hS => ?_)
    have hP : va_P G.1 cls_all (TW G o ad nf false 0 kK kW kF kS kL kE tm pr ga6 ho pa fr rg re) H := hP
    have hD : va_D A (TW G o ad nf false 0 kK kW kF kS kL kE tm pr ga6 ho pa fr rg re) := hD
    exact mm_vrQ hx hb hr hk hS d_Mod_stop_25 ⟨_, hga, by rw [c11]; exact hP⟩
  · refine lv_iconst hx hb d_Mod_stop_14 ci_0 ?_
    refine lv_goto hx hb d_Mod_stop_15 (tgt := 22) (by decide) ?_
    refine mm_put (v := .int (nI 0)) hK hx hb hown lp_Mod_54 hP hD hS 0 rfl rfl rfl (Nat.le_of_ble_eq_true rfl) d_Mod_stop_22 (fun H locs hP hD hS => ?_)
    have hP : va_P G.1 cls_all (TW G o ad 0 false 0 kK kW kF kS kL kE tm pr ga6 ho pa fr rg re) H := hP
    have hD : va_D A (TW G o ad 0 false 0 kK kW kF kS kL kE tm pr ga6 ho pa fr rg re) := hD
    exact mm_vrQ hx hb hr hk hS d_Mod_stop_25 ⟨_, hga, by rw [c11]; exact hP⟩
