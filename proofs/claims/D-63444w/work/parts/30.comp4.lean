set_option maxHeartbeats 4000000 in
set_option maxRecDepth 100000 in
theorem c_Until_see (l : Launch) (G : mm_G) {A : Nat → Prop} (o sa re : Nat) (v2 v3 v4 : Value) (se al : Nat → Int64) (xa sn : Nat) (ln cl : Nat) (hcl : cl < 8) (la0 la1 la2 la3 la4 : Value) (lsa lre : Nat) (lx : List Value) (lse : Nat → Int64) (rn cr : Nat) (hcr : cr < 8) (ra0 ra1 ra2 ra3 ra4 : Value) (rsa rre : Nat) (rx : List Value) (rse : Nat → Int64) (lo ta pa0 np : Nat) (tm pv : Nat → Nat) (iv lw e0 : Nat) (hT0 : TL np tm) (h1 : lw < 2 ^ 30) (h2 : e0 < 2 ^ 30) (hl24 : lre ≤ np) (hr24 : rre ≤ np) (hU0 : UI lse rse tm lw e0 re sn se al) (hre : re ≤ sn) (hsn : sn < lre) (hsn2 : sn < rre) (hD : va_D A [(o, .inr (7, [.ref ln, .ref rn, v2, v3, v4, .ref sa, .int (nI re), .ref iv, .ref xa, .int (nI sn)])), (sa, .inl (G.2.1 1, 24, .inr (.inl se))), (xa, .inl (G.2.1 1, 24, .inr (.inl al)))]) (hRN : ∀ q ∈ ([(ln, .inr (cl, [la0, la1, la2, la3, la4, .ref lsa, .int (nI lre)] ++ lx)), (lsa, .inl (G.2.1 1, 24, .inr (.inl lse))), (rn, .inr (cr, [ra0, ra1, ra2, ra3, ra4, .ref rsa, .int (nI rre)] ++ rx)), (rsa, .inl (G.2.1 1, 24, .inr (.inl rse))), (lo, .inr (9, [.ref ta, .int (nI np), .ref pa0])), (ta, .inl (G.2.1 0, 24, .inl (nA tm))), (pa0, .inl (G.2.1 2, 3, .inl (nA pv))), (iv, .inr (8, [.int (nI lw), .int (nI e0 - 1)]))] : va_W), ¬ A q.1) : Met l y_Until_see [.code y_Until_see b_Until_see 3 none] { frames := 1, cells := 0, slots := 0, locals := 22 } (mm_Pre G [.ref o, .ref lo] (fun H => va_P G.1 cls_all [(o, .inr (7, [.ref ln, .ref rn, v2, v3, v4, .ref sa, .int (nI re), .ref iv, .ref xa, .int (nI sn)])), (sa, .inl (G.2.1 1, 24, .inr (.inl se))), (xa, .inl (G.2.1 1, 24, .inr (.inl al)))] H ∧ va_P G.1 cls_all [(ln, .inr (cl, [la0, la1, la2, la3, la4, .ref lsa, .int (nI lre)] ++ lx)), (lsa, .inl (G.2.1 1, 24, .inr (.inl lse))), (rn, .inr (cr, [ra0, ra1, ra2, ra3, ra4, .ref rsa, .int (nI rre)] ++ rx)), (rsa, .inl (G.2.1 1, 24, .inr (.inl rse))), (lo, .inr (9, [.ref ta, .int (nI np), .ref pa0])), (ta, .inl (G.2.1 0, 24, .inl (nA tm))), (pa0, .inl (G.2.1 2, 3, .inl (nA pv))), (iv, .inr (8, [.int (nI lw), .int (nI e0 - 1)]))] H)) (mm_Qv (fun H => ∃ s9 a9, (∀ q, q < re → s9 q = se q) ∧ UI lse rse tm lw e0 re (sn + 1) s9 a9 ∧ va_P G.1 cls_all [(o, .inr (7, [.ref ln, .ref rn, v2, v3, v4, .ref sa, .int (nI re), .ref iv, .ref xa, .int (nI sn)])), (sa, .inl (G.2.1 1, 24, .inr (.inl s9))), (xa, .inl (G.2.1 1, 24, .inr (.inl a9)))] H) A) 0 0 A := by
  refine mm_of (by decide) (Nat.le_of_ble_eq_true rfl) ?_
  intro p e s m below meth c ls hx hb hr hk hml hown hnm hK h0 hl
  have hl : lv_has ls 3 [(0, .ref o), (1, .ref lo)] := hl
  obtain ⟨hP, hR⟩ := h0
  have hS : va_S A s.heap s.heap [] := va_S.rf
  obtain ⟨t1, t2, t3⟩ := hT0
  refine lv_aload_n hx hb d_Until_see_0 rfl (lv_at hl 0 rfl) ?_
  refine mm_get (v := .ref xa) hK hx hb hown lg_Until_11 hP 0 rfl rfl d_Until_see_1 ?_
  refine lv_aload_n hx hb d_Until_see_4 rfl (lv_at hl 0 rfl) ?_
  refine mm_get (v := .int (nI sn)) hK hx hb hown lg_Until_28 hP 0 rfl rfl d_Until_see_5 ?_
  refine lv_ldc2 hx hb hown (hK.w kw_688) d_Until_see_8 ?_
  refine mm_last (x := (-1)) hK hx hb hP hD hS 2 rfl (by decide) (i := sn) (by omega) d_Until_see_11 (fun H locs hP hD hS => ?_)
  have hP : va_P G.1 cls_all [(o, .inr (7, [.ref ln, .ref rn, v2, v3, v4, .ref sa, .int (nI re), .ref iv, .ref xa, .int (nI sn)])), (sa, .inl (G.2.1 1, 24, .inr (.inl se))), (xa, .inl (G.2.1 1, 24, .inr (.inl (va_up al sn (-1)))))] H := hP
  have hD : va_D A [(o, .inr (7, [.ref ln, .ref rn, v2, v3, v4, .ref sa, .int (nI re), .ref iv, .ref xa, .int (nI sn)])), (sa, .inl (G.2.1 1, 24, .inr (.inl se))), (xa, .inl (G.2.1 1, 24, .inr (.inl (va_up al sn (-1)))))] := hD
  refine lv_aload_n hx hb d_Until_see_12 rfl (lv_at hl 0 rfl) ?_
  refine mm_get (v := .ref sa) hK hx hb hown lg_Until_33 hP 0 rfl rfl d_Until_see_13 ?_
  refine lv_aload_n hx hb d_Until_see_16 rfl (lv_at hl 0 rfl) ?_
  refine mm_get (v := .int (nI sn)) hK hx hb hown lg_Until_28 hP 0 rfl rfl d_Until_see_17 ?_
  refine lv_lconst (v := 0) hx hb d_Until_see_20 (by decide) ?_
  refine mm_last (x := 0) hK hx hb hP hD hS 1 rfl (by decide) (i := sn) (by omega) d_Until_see_21 (fun H locs hP hD hS => ?_)
  have hP : va_P G.1 cls_all [(o, .inr (7, [.ref ln, .ref rn, v2, v3, v4, .ref sa, .int (nI re), .ref iv, .ref xa, .int (nI sn)])), (sa, .inl (G.2.1 1, 24, .inr (.inl (va_up se sn 0)))), (xa, .inl (G.2.1 1, 24, .inr (.inl (va_up al sn (-1)))))] H := hP
  have hD : va_D A [(o, .inr (7, [.ref ln, .ref rn, v2, v3, v4, .ref sa, .int (nI re), .ref iv, .ref xa, .int (nI sn)])), (sa, .inl (G.2.1 1, 24, .inr (.inl (va_up se sn 0)))), (xa, .inl (G.2.1 1, 24, .inr (.inl (va_up al sn (-1)))))] := hD
  refine lv_aload_n hx hb d_Until_see_22 rfl (lv_at hl 0 rfl) ?_
  refine mm_get (v := .int (nI re)) hK hx hb hown lg_Until_25 hP 0 rfl rfl d_Until_see_23 ?_
  refine lv_istore_n (lv' := [(2, .int (nI re)), (0, .ref o), (1, .ref lo)]) hx hb d_Until_see_26 rfl hl (by decide) rfl (fun ls hl => ?_)
  refine mm_loop (σ := (Nat) × (Nat → Int64) × (Nat → Int64)) (fun x ls H locs => match x with | (i, s9, a9) => lv_has ls 3 [(0, .ref o), (1, .ref lo), (2, .int (nI i))] ∧ va_P G.1 cls_all [(o, .inr (7, [.ref ln, .ref rn, v2, v3, v4, .ref sa, .int (nI re), .ref iv, .ref xa, .int (nI sn)])), (sa, .inl (G.2.1 1, 24, .inr (.inl s9))), (xa, .inl (G.2.1 1, 24, .inr (.inl a9)))] H ∧ va_D A [(o, .inr (7, [.ref ln, .ref rn, v2, v3, v4, .ref sa, .int (nI re), .ref iv, .ref xa, .int (nI sn)])), (sa, .inl (G.2.1 1, 24, .inr (.inl s9))), (xa, .inl (G.2.1 1, 24, .inr (.inl a9)))] ∧ va_S A s.heap H locs ∧ (re ≤ i ∧ i ≤ sn + 1) ∧ (UJ lse rse tm lw e0 re sn i se s9 a9)) (fun x => match x with | (i, s9, a9) => sn + 1 - i) ?_ (re, (va_up se sn 0), (va_up al sn (-1))) _ _ _ ⟨(lv_sub hl [1, 2, 0] rfl), hP, hD, hS, ⟨Nat.le_refl _, by omega⟩, (UJ_0 hU0 hre)⟩
  rintro ⟨i, s9, a9⟩ ls H locs ⟨hl, hP, hD, hS, hi9, hJ⟩ ih27
  refine lv_iload_n hx hb d_Until_see_27 rfl (lv_at hl 2 rfl) ?_
  refine lv_aload_n hx hb d_Until_see_28 rfl (lv_at hl 0 rfl) ?_
  refine mm_get (v := .int (nI sn)) hK hx hb hown lg_Until_28 hP 0 rfl rfl d_Until_see_29 ?_
  refine lv_icmp_gt hx hb d_Until_see_32 (tgt := 109) (by decide) (fun c32 => ?_) (fun c32 => ?_)
  · have c32 : i > sn := nb_gtt (by omega) (by omega) c32
    exact mm_vrQ hx hb hr hk hS d_Until_see_109 (by rw [show i = sn + 1 by omega] at hJ; exact ⟨_, _, (UJ_e hJ).1, (UJ_e hJ).2, hP⟩)
  · have c32 : i ≤ sn := nb_gtf (by omega) (by omega) c32
    refine lv_aload_n hx hb d_Until_see_35 rfl (lv_at hl 0 rfl) ?_
    refine mm_get (v := .ref iv) hK hx hb hown lg_Until_17 hP 0 rfl rfl d_Until_see_36 ?_
    refine lv_aload_n hx hb d_Until_see_39 rfl (lv_at hl 1 rfl) ?_
    refine lv_iload_n hx hb d_Until_see_40 rfl (lv_at hl 2 rfl) ?_
    refine lv_aload_n hx hb d_Until_see_41 rfl (lv_at hl 0 rfl) ?_
    refine mm_get (v := .int (nI sn)) hK hx hb hown lg_Until_28 hP 0 rfl rfl d_Until_see_42 ?_
    have z1 := t3 i sn (by omega) (by omega)
    have z2 := t2 sn (by omega)
    refine mm_si (mm_runV hK ⟨hx, hb, hml, hown⟩ lk_Until_36 (c_Log_between l G lo ta pa0 np tm pv i sn (by omega) (by omega) (t3 _ _ (by omega) (by omega))) ⟨rfl, rfl, by decide, by decide⟩ (mm_rc hK (mm_ro hR hRN hS) 4 rfl rfl) ((mm_ro hR hRN hS).sub (ws' := [(lo, .inr (9, [.ref ta, .int (nI np), .ref pa0])), (ta, .inl (G.2.1 0, 24, .inl (nA tm)))]) [4, 5] rfl) rfl hl.1 rfl (Nat.le_of_ble_eq_true rfl) ⟨by decide, by decide⟩ d_Until_see_45) (fun r45 e45 => ?_)
    subst e45
    refine mm_si (mm_runV hK ⟨hx, hb, hml, hown⟩ lk_Until_42 (c_Interval_has l G iv lw e0 (tm sn - tm i) (by omega) (by omega) (by omega)) ⟨rfl, rfl, by decide, by decide⟩ (mm_rc hK (mm_ro hR hRN hS) 7 rfl rfl) ((mm_ro hR hRN hS).sub (ws' := [(iv, .inr (8, [.int (nI lw), .int (nI e0 - 1)]))]) [7] rfl) rfl hl.1 rfl (Nat.le_of_ble_eq_true rfl) ⟨by decide, by decide⟩ d_Until_see_48) (fun r48 e48 => ?_)
    subst e48
    refine mm_ifeqB hx hb d_Until_see_51 (tgt := 82) (by decide) (fun c51 => ?_) (fun c51 => ?_)
    · refine lv_aload_n hx hb d_Until_see_82 rfl (lv_at hl 0 rfl) ?_
      refine mm_get (v := .ref xa) hK hx hb hown lg_Until_11 hP 0 rfl rfl d_Until_see_83 ?_
      refine lv_iload_n hx hb d_Until_see_86 rfl (lv_at hl 2 rfl) ?_
      refine lv_dup2_11 hx hb d_Until_see_87 rfl rfl ?_
      refine mm_lald hK hx hb hP 2 rfl (by decide) (i := i) (by omega) d_Until_see_88 ?_
      refine lv_aload_n hx hb d_Until_see_89 rfl (lv_at hl 0 rfl) ?_
      refine mm_get (v := .ref ln) hK hx hb hown lg_Until_53 hP 0 rfl rfl d_Until_see_90 ?_
      refine mm_get (v := .ref lsa) hK hx hb hown (lg_Until_52 cl hcl) (mm_ro hR hRN hS) 0 rfl rfl d_Until_see_93 ?_
      refine lv_aload_n hx hb d_Until_see_96 rfl (lv_at hl 0 rfl) ?_
      refine mm_get (v := .int (nI sn)) hK hx hb hown lg_Until_28 hP 0 rfl rfl d_Until_see_97 ?_
      refine mm_lald hK hx hb (mm_ro hR hRN hS) 1 rfl (by decide) (i := sn) (by omega) d_Until_see_100 ?_
      refine lv_land hx hb d_Until_see_101 ?_
      refine mm_last (x := (a9 i) &&& (lse sn)) hK hx hb hP hD hS 2 rfl (by decide) (i := i) (by omega) d_Until_see_102 (fun H locs hP hD hS => ?_)
      have hP : va_P G.1 cls_all [(o, .inr (7, [.ref ln, .ref rn, v2, v3, v4, .ref sa, .int (nI re), .ref iv, .ref xa, .int (nI sn)])), (sa, .inl (G.2.1 1, 24, .inr (.inl s9))), (xa, .inl (G.2.1 1, 24, .inr (.inl (va_up a9 i ((a9 i) &&& (lse sn))))))] H := hP
      have hD : va_D A [(o, .inr (7, [.ref ln, .ref rn, v2, v3, v4, .ref sa, .int (nI re), .ref iv, .ref xa, .int (nI sn)])), (sa, .inl (G.2.1 1, 24, .inr (.inl s9))), (xa, .inl (G.2.1 1, 24, .inr (.inl (va_up a9 i ((a9 i) &&& (lse sn))))))] := hD
      refine lv_iinc (k := 2) (v := nI (i + 1)) (lv' := [(2, .int (nI (i + 1))), (0, .ref o), (1, .ref lo)]) hx hb d_Until_see_103 hl rfl (inc1 _) (by decide) rfl (fun ls hl => ?_)
      refine lv_goto hx hb d_Until_see_106 (tgt := 27) (by decide) ?_
      exact ih27 ((i + 1), s9, (va_up a9 i ((a9 i) &&& (lse sn)))) _ _ _ ⟨(lv_sub hl [1, 2, 0] rfl), hP, hD, hS, ⟨by omega, by omega⟩, (UJ_b hJ (by omega) (by omega) c51)⟩ (by (try dsimp only); omega)
    · refine lv_aload_n hx hb d_Until_see_54 rfl (lv_at hl 0 rfl) ?_
      refine mm_get (v := .ref sa) hK hx hb hown lg_Until_33 hP 0 rfl rfl d_Until_see_55 ?_
      refine lv_iload_n hx hb d_Until_see_58 rfl (lv_at hl 2 rfl) ?_
      refine lv_dup2_11 hx hb d_Until_see_59 rfl rfl ?_
      refine mm_lald hK hx hb hP 1 rfl (by decide) (i := i) (by omega) d_Until_see_60 ?_
      refine lv_aload_n hx hb d_Until_see_61 rfl (lv_at hl 0 rfl) ?_
      refine mm_get (v := .ref xa) hK hx hb hown lg_Until_11 hP 0 rfl rfl d_Until_see_62 ?_
      refine lv_iload_n hx hb d_Until_see_65 rfl (lv_at hl 2 rfl) ?_
      refine mm_lald hK hx hb hP 2 rfl (by decide) (i := i) (by omega) d_Until_see_66 ?_
      refine lv_aload_n hx hb d_Until_see_67 rfl (lv_at hl 0 rfl) ?_
      refine mm_get (v := .ref rn) hK hx hb hown lg_Until_48 hP 0 rfl rfl d_Until_see_68 ?_
      refine mm_get (v := .ref rsa) hK hx hb hown (lg_Until_52 cr hcr) (mm_ro hR hRN hS) 2 rfl rfl d_Until_see_71 ?_
      refine lv_aload_n hx hb d_Until_see_74 rfl (lv_at hl 0 rfl) ?_
      refine mm_get (v := .int (nI sn)) hK hx hb hown lg_Until_28 hP 0 rfl rfl d_Until_see_75 ?_
      refine mm_lald hK hx hb (mm_ro hR hRN hS) 3 rfl (by decide) (i := sn) (by omega) d_Until_see_78 ?_
      refine lv_land hx hb d_Until_see_79 ?_
      refine lv_lor hx hb d_Until_see_80 ?_
      refine mm_last (x := (s9 i) ||| ((a9 i) &&& (rse sn))) hK hx hb hP hD hS 1 rfl (by decide) (i := i) (by omega) d_Until_see_81 (fun H locs hP hD hS => ?_)
      have hP : va_P G.1 cls_all [(o, .inr (7, [.ref ln, .ref rn, v2, v3, v4, .ref sa, .int (nI re), .ref iv, .ref xa, .int (nI sn)])), (sa, .inl (G.2.1 1, 24, .inr (.inl (va_up s9 i ((s9 i) ||| ((a9 i) &&& (rse sn))))))), (xa, .inl (G.2.1 1, 24, .inr (.inl a9)))] H := hP
      have hD : va_D A [(o, .inr (7, [.ref ln, .ref rn, v2, v3, v4, .ref sa, .int (nI re), .ref iv, .ref xa, .int (nI sn)])), (sa, .inl (G.2.1 1, 24, .inr (.inl (va_up s9 i ((s9 i) ||| ((a9 i) &&& (rse sn))))))), (xa, .inl (G.2.1 1, 24, .inr (.inl a9)))] := hD
      refine lv_aload_n hx hb d_Until_see_82 rfl (lv_at hl 0 rfl) ?_
      refine mm_get (v := .ref xa) hK hx hb hown lg_Until_11 hP 0 rfl rfl d_Until_see_83 ?_
      refine lv_iload_n hx hb d_Until_see_86 rfl (lv_at hl 2 rfl) ?_
      refine lv_dup2_11 hx hb d_Until_see_87 rfl rfl ?_
      refine mm_lald hK hx hb hP 2 rfl (by decide) (i := i) (by omega) d_Until_see_88 ?_
      refine lv_aload_n hx hb d_Until_see_89 rfl (lv_at hl 0 rfl) ?_
      refine mm_get (v := .ref ln) hK hx hb hown lg_Until_53 hP 0 rfl rfl d_Until_see_90 ?_
      refine mm_get (v := .ref lsa) hK hx hb hown (lg_Until_52 cl hcl) (mm_ro hR hRN hS) 0 rfl rfl d_Until_see_93 ?_
      refine lv_aload_n hx hb d_Until_see_96 rfl (lv_at hl 0 rfl) ?_
      refine mm_get (v := .int (nI sn)) hK hx hb hown lg_Until_28 hP 0 rfl rfl d_Until_see_97 ?_
      refine mm_lald hK hx hb (mm_ro hR hRN hS) 1 rfl (by decide) (i := sn) (by omega) d_Until_see_100 ?_
      refine lv_land hx hb d_Until_see_101 ?_
      refine mm_last (x := (a9 i) &&& (lse sn)) hK hx hb hP hD hS 2 rfl (by decide) (i := i) (by omega) d_Until_see_102 (fun H locs hP hD hS => ?_)
      have hP : va_P G.1 cls_all [(o, .inr (7, [.ref ln, .ref rn, v2, v3, v4, .ref sa, .int (nI re), .ref iv, .ref xa, .int (nI sn)])), (sa, .inl (G.2.1 1, 24, .inr (.inl (va_up s9 i ((s9 i) ||| ((a9 i) &&& (rse sn))))))), (xa, .inl (G.2.1 1, 24, .inr (.inl (va_up a9 i ((a9 i) &&& (lse sn))))))] H := hP
      have hD : va_D A [(o, .inr (7, [.ref ln, .ref rn, v2, v3, v4, .ref sa, .int (nI re), .ref iv, .ref xa, .int (nI sn)])), (sa, .inl (G.2.1 1, 24, .inr (.inl (va_up s9 i ((s9 i) ||| ((a9 i) &&& (rse sn))))))), (xa, .inl (G.2.1 1, 24, .inr (.inl (va_up a9 i ((a9 i) &&& (lse sn))))))] := hD
      refine lv_iinc (k := 2) (v := nI (i + 1)) (lv' := [(2, .int (nI (i + 1))), (0, .ref o), (1, .ref lo)]) hx hb d_Until_see_103 hl rfl (inc1 _) (by decide) rfl (fun ls hl => ?_)
      refine lv_goto hx hb d_Until_see_106 (tgt := 27) (by decide) ?_
      exact ih27 ((i + 1), (va_up s9 i ((s9 i) ||| ((a9 i) &&& (rse sn)))), (va_up a9 i ((a9 i) &&& (lse sn)))) _ _ _ ⟨(lv_sub hl [1, 2, 0] rfl), hP, hD, hS, ⟨by omega, by omega⟩, (UJ_a hJ (by omega) (by omega) c51)⟩ (by (try dsimp only); omega)
set_option maxHeartbeats 4000000 in
set_option maxRecDepth 100000 in
theorem c_Until_advance (l : Launch) (G : mm_G) {A : Nat → Prop} (o sa re : Nat) (v2 v3 v4 : Value) (se al : Nat → Int64) (xa sn : Nat) (ln cl : Nat) (hcl : cl < 8) (la0 la1 la2 la3 la4 : Value) (lsa lre : Nat) (lx : List Value) (lse : Nat → Int64) (rn cr : Nat) (hcr : cr < 8) (ra0 ra1 ra2 ra3 ra4 : Value) (rsa rre : Nat) (rx : List Value) (rse : Nat → Int64) (lo ta pa0 np : Nat) (tm pv : Nat → Nat) (iv lw e0 : Nat) (hT0 : TL np tm) (h1 : lw < 2 ^ 30) (h2 : e0 < 2 ^ 30) (hl24 : lre ≤ np) (hr24 : rre ≤ np) (hU0 : UI lse rse tm lw e0 re sn se al) (hre : re ≤ sn) (hrn : re ≤ np - 1) (hn1 : 0 < np) (hsn : sn ≤ min lre rre) (hD : va_D A [(o, .inr (7, [.ref ln, .ref rn, v2, v3, v4, .ref sa, .int (nI re), .ref iv, .ref xa, .int (nI sn)])), (sa, .inl (G.2.1 1, 24, .inr (.inl se))), (xa, .inl (G.2.1 1, 24, .inr (.inl al)))]) (hRN : ∀ q ∈ ([(ln, .inr (cl, [la0, la1, la2, la3, la4, .ref lsa, .int (nI lre)] ++ lx)), (lsa, .inl (G.2.1 1, 24, .inr (.inl lse))), (rn, .inr (cr, [ra0, ra1, ra2, ra3, ra4, .ref rsa, .int (nI rre)] ++ rx)), (rsa, .inl (G.2.1 1, 24, .inr (.inl rse))), (lo, .inr (9, [.ref ta, .int (nI np), .ref pa0])), (ta, .inl (G.2.1 0, 24, .inl (nA tm))), (pa0, .inl (G.2.1 2, 3, .inl (nA pv))), (iv, .inr (8, [.int (nI lw), .int (nI e0 - 1)]))] : va_W), ¬ A q.1) : Met l y_Until_advance [.code y_Until_advance b_Until_advance 3 none] { frames := 2, cells := 0, slots := 0, locals := 44 } (mm_Pre G [.ref o, .ref lo] (fun H => va_P G.1 cls_all [(o, .inr (7, [.ref ln, .ref rn, v2, v3, v4, .ref sa, .int (nI re), .ref iv, .ref xa, .int (nI sn)])), (sa, .inl (G.2.1 1, 24, .inr (.inl se))), (xa, .inl (G.2.1 1, 24, .inr (.inl al)))] H ∧ va_P G.1 cls_all [(ln, .inr (cl, [la0, la1, la2, la3, la4, .ref lsa, .int (nI lre)] ++ lx)), (lsa, .inl (G.2.1 1, 24, .inr (.inl lse))), (rn, .inr (cr, [ra0, ra1, ra2, ra3, ra4, .ref rsa, .int (nI rre)] ++ rx)), (rsa, .inl (G.2.1 1, 24, .inr (.inl rse))), (lo, .inr (9, [.ref ta, .int (nI np), .ref pa0])), (ta, .inl (G.2.1 0, 24, .inl (nA tm))), (pa0, .inl (G.2.1 2, 3, .inl (nA pv))), (iv, .inr (8, [.int (nI lw), .int (nI e0 - 1)]))] H)) (mm_Qv (fun H => ∃ r9 s9 a9, (re ≤ r9 ∧ r9 ≤ min (min lre rre) (np - 1)) ∧ (∀ j, re ≤ j → j < r9 → tm j + e0 ≤ tm (min (min lre rre) (np - 1))) ∧ (r9 = min (min lre rre) (np - 1) ∨ tm (min (min lre rre) (np - 1)) < tm r9 + e0) ∧ (∀ q, q < re → s9 q = se q) ∧ UI lse rse tm lw e0 re (min lre rre) s9 a9 ∧ va_P G.1 cls_all [(o, .inr (7, [.ref ln, .ref rn, v2, v3, v4, .ref sa, .int (nI r9), .ref iv, .ref xa, .int (nI (min lre rre))])), (sa, .inl (G.2.1 1, 24, .inr (.inl s9))), (xa, .inl (G.2.1 1, 24, .inr (.inl a9)))] H) A) 0 0 A := by
  refine mm_of (by decide) (Nat.le_of_ble_eq_true rfl) ?_
  intro p e s m below meth c ls hx hb hr hk hml hown hnm hK h0 hl
  have hl : lv_has ls 3 [(0, .ref o), (1, .ref lo)] := hl
  obtain ⟨hP, hR⟩ := h0
  have hS : va_S A s.heap s.heap [] := va_S.rf
  obtain ⟨t1, t2, t3⟩ := hT0
  refine lv_aload_n hx hb d_Until_advance_0 rfl (lv_at hl 0 rfl) ?_
  refine mm_si (mm_runU hK ⟨hx, hb, hml, hown⟩ lk_Until_56_Until (c_Formula_both l G o 7 (by decide) [.ref iv, .ref xa, .int (nI sn)] v2 v3 v4 (.ref sa) (.int (nI re)) ln cl hcl la0 la1 la2 la3 la4 (.ref lsa) lre lx rn cr hcr ra0 ra1 ra2 ra3 ra4 (.ref rsa) rre rx (by omega) (by omega)) ⟨rfl, rfl, by decide, by decide⟩ (mm_rc hK hP 0 rfl rfl) ((hP.sub (ws' := [(o, .inr (7, [.ref ln, .ref rn, v2, v3, v4, .ref sa, .int (nI re), .ref iv, .ref xa, .int (nI sn)]))]) [0] rfl).app ((mm_ro hR hRN hS).sub (ws' := [(ln, .inr (cl, [la0, la1, la2, la3, la4, .ref lsa, .int (nI lre)] ++ lx)), (rn, .inr (cr, [ra0, ra1, ra2, ra3, ra4, .ref rsa, .int (nI rre)] ++ rx))]) [0, 2] rfl)) rfl hl.1 rfl (Nat.le_of_ble_eq_true rfl) ⟨by decide, by decide⟩ d_Until_advance_1) (fun r1 e1 => ?_)
  subst e1
  refine lv_istore_n (lv' := [(2, .int (nI (min lre rre))), (0, .ref o), (1, .ref lo)]) hx hb d_Until_advance_4 rfl hl (by decide) rfl (fun ls hl => ?_)
  refine mm_loop (σ := (Nat) × (Nat → Int64) × (Nat → Int64)) (fun x ls H locs => match x with | (n9, s8, a8) => lv_has ls 3 [(0, .ref o), (1, .ref lo), (2, .int (nI (min lre rre)))] ∧ va_P G.1 cls_all [(o, .inr (7, [.ref ln, .ref rn, v2, v3, v4, .ref sa, .int (nI re), .ref iv, .ref xa, .int (nI n9)])), (sa, .inl (G.2.1 1, 24, .inr (.inl s8))), (xa, .inl (G.2.1 1, 24, .inr (.inl a8)))] H ∧ va_D A [(o, .inr (7, [.ref ln, .ref rn, v2, v3, v4, .ref sa, .int (nI re), .ref iv, .ref xa, .int (nI n9)])), (sa, .inl (G.2.1 1, 24, .inr (.inl s8))), (xa, .inl (G.2.1 1, 24, .inr (.inl a8)))] ∧ va_S A s.heap H locs ∧ (sn ≤ n9 ∧ n9 ≤ min lre rre) ∧ (∀ q, q < re → s8 q = se q) ∧ (UI lse rse tm lw e0 re n9 s8 a8)) (fun x => match x with | (n9, s8, a8) => min lre rre - n9) ?_ (sn, se, al) _ _ _ ⟨(lv_sub hl [1, 2, 0] rfl), hP, hD, hS, ⟨Nat.le_refl _, hsn⟩, (fun q _ => rfl), hU0⟩
  rintro ⟨n9, s8, a8⟩ ls H locs ⟨hl, hP, hD, hS, hn9, hs8, hU⟩ ih5
  refine lv_aload_n hx hb d_Until_advance_5 rfl (lv_at hl 0 rfl) ?_
  refine mm_get (v := .int (nI n9)) hK hx hb hown lg_Until_28 hP 0 rfl rfl d_Until_advance_6 ?_
  refine lv_iload_n hx hb d_Until_advance_9 rfl (lv_at hl 2 rfl) ?_
  refine lv_icmp_ge hx hb d_Until_advance_10 (tgt := 31) (by decide) (fun c10 => ?_) (fun c10 => ?_)
  · have c10 : n9 ≥ min lre rre := nb_get (by omega) (by omega) c10
    have en : n9 = min lre rre := by omega
    refine lv_aload_n hx hb d_Until_advance_31 rfl (lv_at hl 0 rfl) ?_
    refine mm_get (v := .int (nI n9)) hK hx hb hown lg_Until_28 hP 0 rfl rfl d_Until_advance_32 ?_
    refine lv_aload_n hx hb d_Until_advance_35 rfl (lv_at hl 1 rfl) ?_
    refine mm_get (v := .int (nI np)) hK hx hb hown lg_Until_64 (mm_ro hR hRN hS) 4 rfl rfl d_Until_advance_36 ?_
    refine lv_icmp_ge hx hb d_Until_advance_39 (tgt := 49) (by decide) (fun c39 => ?_) (fun c39 => ?_)
    · have c39 : n9 ≥ np := nb_get (by omega) (by omega) c39
      refine lv_aload_n hx hb d_Until_advance_49 rfl (lv_at hl 1 rfl) ?_
      refine mm_get (v := .int (nI np)) hK hx hb hown lg_Until_64 (mm_ro hR hRN hS) 4 rfl rfl d_Until_advance_50 ?_
      refine lv_iconst hx hb d_Until_advance_53 ci_1 ?_
      refine lv_isub hx hb d_Until_advance_54 ?_
      refine mm_ti (y := nI (np - 1)) (pk_sub (by omega)) ?_
      refine mm_ti (y := nI (min (min lre rre) (np - 1))) (congrArg nI (show np - 1 = min (min lre rre) (np - 1) by omega)) ?_
      refine lv_istore_n (lv' := [(2, .int (nI (min (min lre rre) (np - 1)))), (0, .ref o), (1, .ref lo)]) hx hb d_Until_advance_55 rfl hl (by decide) rfl (fun ls hl => ?_)
      refine mm_loop (σ := (Nat)) (fun (r8 : Nat) ls H locs => lv_has ls 3 [(0, .ref o), (1, .ref lo), (2, .int (nI (min (min lre rre) (np - 1))))] ∧ va_P G.1 cls_all [(o, .inr (7, [.ref ln, .ref rn, v2, v3, v4, .ref sa, .int (nI r8), .ref iv, .ref xa, .int (nI n9)])), (sa, .inl (G.2.1 1, 24, .inr (.inl s8))), (xa, .inl (G.2.1 1, 24, .inr (.inl a8)))] H ∧ va_D A [(o, .inr (7, [.ref ln, .ref rn, v2, v3, v4, .ref sa, .int (nI r8), .ref iv, .ref xa, .int (nI n9)])), (sa, .inl (G.2.1 1, 24, .inr (.inl s8))), (xa, .inl (G.2.1 1, 24, .inr (.inl a8)))] ∧ va_S A s.heap H locs ∧ (re ≤ r8 ∧ r8 ≤ min (min lre rre) (np - 1) ∧ ∀ j, re ≤ j → j < r8 → tm j + e0 ≤ tm (min (min lre rre) (np - 1)))) (fun (r8 : Nat) => min (min lre rre) (np - 1) - r8) ?_ re _ _ _ ⟨(lv_sub hl [1, 2, 0] rfl), hP, hD, hS, ⟨Nat.le_refl _, by omega, fun j h1 h2 => by omega⟩⟩
      rintro r8 ls H locs ⟨hl, hP, hD, hS, hr8⟩ ih56
      refine lv_aload_n hx hb d_Until_advance_56 rfl (lv_at hl 0 rfl) ?_
      refine mm_get (v := .int (nI r8)) hK hx hb hown lg_Until_25 hP 0 rfl rfl d_Until_advance_57 ?_
      refine lv_iload_n hx hb d_Until_advance_60 rfl (lv_at hl 2 rfl) ?_
      refine lv_icmp_ge hx hb d_Until_advance_61 (tgt := 96) (by decide) (fun c61 => ?_) (fun c61 => ?_)
      · have c61 : r8 ≥ min (min lre rre) (np - 1) := nb_get (by omega) (by omega) c61
        exact mm_vrQ hx hb hr hk hS d_Until_advance_96 ⟨r8, s8, a8, ⟨hr8.1, hr8.2.1⟩, hr8.2.2, Or.inl (by omega), hs8, by rw [← en]; exact hU, by rw [← en]; exact hP⟩
      · have c61 : r8 < min (min lre rre) (np - 1) := nb_gef (by omega) (by omega) c61
        refine lv_aload_n hx hb d_Until_advance_64 rfl (lv_at hl 1 rfl) ?_
        refine lv_aload_n hx hb d_Until_advance_65 rfl (lv_at hl 0 rfl) ?_
        refine mm_get (v := .int (nI r8)) hK hx hb hown lg_Until_25 hP 0 rfl rfl d_Until_advance_66 ?_
        refine lv_iload_n hx hb d_Until_advance_69 rfl (lv_at hl 2 rfl) ?_
        have z1 := t3 r8 (min (min lre rre) (np - 1)) (by omega) (by omega)
        have z2 := t2 (min (min lre rre) (np - 1)) (by omega)
        refine mm_si (mm_runV hK ⟨hx, hb, hml, hown⟩ lk_Until_36 (c_Log_between l G lo ta pa0 np tm pv r8 (min (min lre rre) (np - 1)) (by omega) (by omega) (t3 _ _ (by omega) (by omega))) ⟨rfl, rfl, by decide, by decide⟩ (mm_rc hK (mm_ro hR hRN hS) 4 rfl rfl) ((mm_ro hR hRN hS).sub (ws' := [(lo, .inr (9, [.ref ta, .int (nI np), .ref pa0])), (ta, .inl (G.2.1 0, 24, .inl (nA tm)))]) [4, 5] rfl) rfl hl.1 rfl (Nat.le_of_ble_eq_true rfl) ⟨by decide, by decide⟩ d_Until_advance_70) (fun r70 e70 => ?_)
        subst e70
        refine lv_aload_n hx hb d_Until_advance_73 rfl (lv_at hl 0 rfl) ?_
        refine mm_get (v := .ref iv) hK hx hb hown lg_Until_17 hP 0 rfl rfl d_Until_advance_74 ?_
        refine mm_si (mm_runV hK ⟨hx, hb, hml, hown⟩ lk_Until_67 (c_Interval_hi l G iv lw e0) ⟨rfl, rfl, by decide, by decide⟩ (mm_rc hK (mm_ro hR hRN hS) 7 rfl rfl) ((mm_ro hR hRN hS).sub (ws' := [(iv, .inr (8, [.int (nI lw), .int (nI e0 - 1)]))]) [7] rfl) rfl hl.1 rfl (Nat.le_of_ble_eq_true rfl) ⟨by decide, by decide⟩ d_Until_advance_77) (fun r77 e77 => ?_)
        subst e77
        refine lv_icmp_le hx hb d_Until_advance_80 (tgt := 96) (by decide) (fun c80 => ?_) (fun c80 => ?_)
        · rw [Int32.le_iff_toInt_le, nI_toInt (n := tm (min (min lre rre) (np - 1)) - tm r8) (by omega), eI_toInt (n := e0) (by omega)] at c80
          exact mm_vrQ hx hb hr hk hS d_Until_advance_96 ⟨r8, s8, a8, ⟨hr8.1, hr8.2.1⟩, hr8.2.2, Or.inr (by omega), hs8, by rw [← en]; exact hU, by rw [← en]; exact hP⟩
        · rw [Int32.le_iff_toInt_le, nI_toInt (n := tm (min (min lre rre) (np - 1)) - tm r8) (by omega), eI_toInt (n := e0) (by omega)] at c80
          refine lv_aload_n hx hb d_Until_advance_83 rfl (lv_at hl 0 rfl) ?_
          refine lv_dup hx hb d_Until_advance_84 rfl ?_
          refine mm_get (v := .int (nI r8)) hK hx hb hown lg_Until_25 hP 0 rfl rfl d_Until_advance_85 ?_
          refine lv_iconst hx hb d_Until_advance_88 ci_1 ?_
          refine lv_iadd hx hb d_Until_advance_89 ?_
          refine mm_ti (nI_add _ _) ?_
          refine mm_put (v := .int (nI (r8 + 1))) hK hx hb hown lp_Until_25 hP hD hS 0 rfl rfl rfl (Nat.le_of_ble_eq_true rfl) d_Until_advance_90 (fun H locs hP hD hS => ?_)
          have hP : va_P G.1 cls_all [(o, .inr (7, [.ref ln, .ref rn, v2, v3, v4, .ref sa, .int (nI (r8 + 1)), .ref iv, .ref xa, .int (nI n9)])), (sa, .inl (G.2.1 1, 24, .inr (.inl s8))), (xa, .inl (G.2.1 1, 24, .inr (.inl a8)))] H := hP
          have hD : va_D A [(o, .inr (7, [.ref ln, .ref rn, v2, v3, v4, .ref sa, .int (nI (r8 + 1)), .ref iv, .ref xa, .int (nI n9)])), (sa, .inl (G.2.1 1, 24, .inr (.inl s8))), (xa, .inl (G.2.1 1, 24, .inr (.inl a8)))] := hD
          refine lv_goto hx hb d_Until_advance_93 (tgt := 56) (by decide) ?_
          exact ih56 (r8 + 1) _ _ _ ⟨(lv_sub hl [0, 1, 2] rfl), hP, hD, hS, ⟨by omega, by omega, fun j h1 h2 => by by_cases h9 : j = r8; (rw [h9]; omega); exact hr8.2.2 j h1 (by omega)⟩⟩ (by (try dsimp only); omega)
    · have c39 : n9 < np := nb_gef (by omega) (by omega) c39
      refine lv_aload_n hx hb d_Until_advance_42 rfl (lv_at hl 0 rfl) ?_
      refine mm_get (v := .int (nI n9)) hK hx hb hown lg_Until_28 hP 0 rfl rfl d_Until_advance_43 ?_
      refine lv_goto hx hb d_Until_advance_46 (tgt := 55) (by decide) ?_
      refine mm_ti (y := nI (min (min lre rre) (np - 1))) (congrArg nI (show n9 = min (min lre rre) (np - 1) by omega)) ?_
      refine lv_istore_n (lv' := [(2, .int (nI (min (min lre rre) (np - 1)))), (0, .ref o), (1, .ref lo)]) hx hb d_Until_advance_55 rfl hl (by decide) rfl (fun ls hl => ?_)
      refine mm_loop (σ := (Nat)) (fun (r8 : Nat) ls H locs => lv_has ls 3 [(0, .ref o), (1, .ref lo), (2, .int (nI (min (min lre rre) (np - 1))))] ∧ va_P G.1 cls_all [(o, .inr (7, [.ref ln, .ref rn, v2, v3, v4, .ref sa, .int (nI r8), .ref iv, .ref xa, .int (nI n9)])), (sa, .inl (G.2.1 1, 24, .inr (.inl s8))), (xa, .inl (G.2.1 1, 24, .inr (.inl a8)))] H ∧ va_D A [(o, .inr (7, [.ref ln, .ref rn, v2, v3, v4, .ref sa, .int (nI r8), .ref iv, .ref xa, .int (nI n9)])), (sa, .inl (G.2.1 1, 24, .inr (.inl s8))), (xa, .inl (G.2.1 1, 24, .inr (.inl a8)))] ∧ va_S A s.heap H locs ∧ (re ≤ r8 ∧ r8 ≤ min (min lre rre) (np - 1) ∧ ∀ j, re ≤ j → j < r8 → tm j + e0 ≤ tm (min (min lre rre) (np - 1)))) (fun (r8 : Nat) => min (min lre rre) (np - 1) - r8) ?_ re _ _ _ ⟨(lv_sub hl [1, 2, 0] rfl), hP, hD, hS, ⟨Nat.le_refl _, by omega, fun j h1 h2 => by omega⟩⟩
      rintro r8 ls H locs ⟨hl, hP, hD, hS, hr8⟩ ih56
      refine lv_aload_n hx hb d_Until_advance_56 rfl (lv_at hl 0 rfl) ?_
      refine mm_get (v := .int (nI r8)) hK hx hb hown lg_Until_25 hP 0 rfl rfl d_Until_advance_57 ?_
      refine lv_iload_n hx hb d_Until_advance_60 rfl (lv_at hl 2 rfl) ?_
      refine lv_icmp_ge hx hb d_Until_advance_61 (tgt := 96) (by decide) (fun c61 => ?_) (fun c61 => ?_)
      · have c61 : r8 ≥ min (min lre rre) (np - 1) := nb_get (by omega) (by omega) c61
        exact mm_vrQ hx hb hr hk hS d_Until_advance_96 ⟨r8, s8, a8, ⟨hr8.1, hr8.2.1⟩, hr8.2.2, Or.inl (by omega), hs8, by rw [← en]; exact hU, by rw [← en]; exact hP⟩
      · have c61 : r8 < min (min lre rre) (np - 1) := nb_gef (by omega) (by omega) c61
        refine lv_aload_n hx hb d_Until_advance_64 rfl (lv_at hl 1 rfl) ?_
        refine lv_aload_n hx hb d_Until_advance_65 rfl (lv_at hl 0 rfl) ?_
        refine mm_get (v := .int (nI r8)) hK hx hb hown lg_Until_25 hP 0 rfl rfl d_Until_advance_66 ?_
        refine lv_iload_n hx hb d_Until_advance_69 rfl (lv_at hl 2 rfl) ?_
        have z1 := t3 r8 (min (min lre rre) (np - 1)) (by omega) (by omega)
        have z2 := t2 (min (min lre rre) (np - 1)) (by omega)
        refine mm_si (mm_runV hK ⟨hx, hb, hml, hown⟩ lk_Until_36 (c_Log_between l G lo ta pa0 np tm pv r8 (min (min lre rre) (np - 1)) (by omega) (by omega) (t3 _ _ (by omega) (by omega))) ⟨rfl, rfl, by decide, by decide⟩ (mm_rc hK (mm_ro hR hRN hS) 4 rfl rfl) ((mm_ro hR hRN hS).sub (ws' := [(lo, .inr (9, [.ref ta, .int (nI np), .ref pa0])), (ta, .inl (G.2.1 0, 24, .inl (nA tm)))]) [4, 5] rfl) rfl hl.1 rfl (Nat.le_of_ble_eq_true rfl) ⟨by decide, by decide⟩ d_Until_advance_70) (fun r70 e70 => ?_)
        subst e70
        refine lv_aload_n hx hb d_Until_advance_73 rfl (lv_at hl 0 rfl) ?_
        refine mm_get (v := .ref iv) hK hx hb hown lg_Until_17 hP 0 rfl rfl d_Until_advance_74 ?_
        refine mm_si (mm_runV hK ⟨hx, hb, hml, hown⟩ lk_Until_67 (c_Interval_hi l G iv lw e0) ⟨rfl, rfl, by decide, by decide⟩ (mm_rc hK (mm_ro hR hRN hS) 7 rfl rfl) ((mm_ro hR hRN hS).sub (ws' := [(iv, .inr (8, [.int (nI lw), .int (nI e0 - 1)]))]) [7] rfl) rfl hl.1 rfl (Nat.le_of_ble_eq_true rfl) ⟨by decide, by decide⟩ d_Until_advance_77) (fun r77 e77 => ?_)
        subst e77
        refine lv_icmp_le hx hb d_Until_advance_80 (tgt := 96) (by decide) (fun c80 => ?_) (fun c80 => ?_)
        · rw [Int32.le_iff_toInt_le, nI_toInt (n := tm (min (min lre rre) (np - 1)) - tm r8) (by omega), eI_toInt (n := e0) (by omega)] at c80
          exact mm_vrQ hx hb hr hk hS d_Until_advance_96 ⟨r8, s8, a8, ⟨hr8.1, hr8.2.1⟩, hr8.2.2, Or.inr (by omega), hs8, by rw [← en]; exact hU, by rw [← en]; exact hP⟩
        · rw [Int32.le_iff_toInt_le, nI_toInt (n := tm (min (min lre rre) (np - 1)) - tm r8) (by omega), eI_toInt (n := e0) (by omega)] at c80
          refine lv_aload_n hx hb d_Until_advance_83 rfl (lv_at hl 0 rfl) ?_
          refine lv_dup hx hb d_Until_advance_84 rfl ?_
          refine mm_get (v := .int (nI r8)) hK hx hb hown lg_Until_25 hP 0 rfl rfl d_Until_advance_85 ?_
          refine lv_iconst hx hb d_Until_advance_88 ci_1 ?_
          refine lv_iadd hx hb d_Until_advance_89 ?_
          refine mm_ti (nI_add _ _) ?_
          refine mm_put (v := .int (nI (r8 + 1))) hK hx hb hown lp_Until_25 hP hD hS 0 rfl rfl rfl (Nat.le_of_ble_eq_true rfl) d_Until_advance_90 (fun H locs hP hD hS => ?_)
          have hP : va_P G.1 cls_all [(o, .inr (7, [.ref ln, .ref rn, v2, v3, v4, .ref sa, .int (nI (r8 + 1)), .ref iv, .ref xa, .int (nI n9)])), (sa, .inl (G.2.1 1, 24, .inr (.inl s8))), (xa, .inl (G.2.1 1, 24, .inr (.inl a8)))] H := hP
          have hD : va_D A [(o, .inr (7, [.ref ln, .ref rn, v2, v3, v4, .ref sa, .int (nI (r8 + 1)), .ref iv, .ref xa, .int (nI n9)])), (sa, .inl (G.2.1 1, 24, .inr (.inl s8))), (xa, .inl (G.2.1 1, 24, .inr (.inl a8)))] := hD
          refine lv_goto hx hb d_Until_advance_93 (tgt := 56) (by decide) ?_
          exact ih56 (r8 + 1) _ _ _ ⟨(lv_sub hl [0, 1, 2] rfl), hP, hD, hS, ⟨by omega, by omega, fun j h1 h2 => by by_cases h9 : j = r8; (rw [h9]; omega); exact hr8.2.2 j h1 (by omega)⟩⟩ (by (try dsimp only); omega)
  · have c10 : n9 < min lre rre := nb_gef (by omega) (by omega) c10
    refine lv_aload_n hx hb d_Until_advance_13 rfl (lv_at hl 0 rfl) ?_
    refine lv_aload_n hx hb d_Until_advance_14 rfl (lv_at hl 1 rfl) ?_
    refine mm_qv (mm_runV hK ⟨hx, hb, hml, hown⟩ lk_Until_60 (c_Until_see l G o sa re v2 v3 v4 s8 a8 xa n9 ln cl hcl la0 la1 la2 la3 la4 lsa lre lx lse rn cr hcr ra0 ra1 ra2 ra3 ra4 rsa rre rx rse lo ta pa0 np tm pv iv lw e0 ⟨t1, t2, t3⟩ h1 h2 hl24 hr24 hU (by omega) (by omega) (by omega) hD hRN) ⟨rfl, rfl, by decide, by decide⟩ (mm_rc hK hP 0 rfl rfl) ⟨hP, mm_ro hR hRN hS⟩ rfl hl.1 rfl (Nat.le_of_ble_eq_true rfl) ⟨by decide, by decide⟩ d_Until_advance_15) hS (fun q h => h) (fun H locs e15 hz1 hk1 hS => ?_)
    obtain ⟨t9, b9, hs9, hU9, hP⟩ := e15
    have hD : va_D A [(o, .inr (7, [.ref ln, .ref rn, v2, v3, v4, .ref sa, .int (nI re), .ref iv, .ref xa, .int (nI n9)])), (sa, .inl (G.2.1 1, 24, .inr (.inl t9))), (xa, .inl (G.2.1 1, 24, .inr (.inl b9)))] := mD hD rfl
    refine lv_aload_n hx hb d_Until_advance_18 rfl (lv_at hl 0 rfl) ?_
    refine lv_dup hx hb d_Until_advance_19 rfl ?_
    refine mm_get (v := .int (nI n9)) hK hx hb hown lg_Until_28 hP 0 rfl rfl d_Until_advance_20 ?_
    refine lv_iconst hx hb d_Until_advance_23 ci_1 ?_
    refine lv_iadd hx hb d_Until_advance_24 ?_
    refine mm_ti (nI_add _ _) ?_
    refine mm_put (v := .int (nI (n9 + 1))) hK hx hb hown lp_Until_28 hP hD hS 0 rfl rfl rfl (Nat.le_of_ble_eq_true rfl) d_Until_advance_25 (fun H locs hP hD hS => ?_)
    have hP : va_P G.1 cls_all [(o, .inr (7, [.ref ln, .ref rn, v2, v3, v4, .ref sa, .int (nI re), .ref iv, .ref xa, .int (nI (n9 + 1))])), (sa, .inl (G.2.1 1, 24, .inr (.inl t9))), (xa, .inl (G.2.1 1, 24, .inr (.inl b9)))] H := hP
    have hD : va_D A [(o, .inr (7, [.ref ln, .ref rn, v2, v3, v4, .ref sa, .int (nI re), .ref iv, .ref xa, .int (nI (n9 + 1))])), (sa, .inl (G.2.1 1, 24, .inr (.inl t9))), (xa, .inl (G.2.1 1, 24, .inr (.inl b9)))] := hD
    refine lv_goto hx hb d_Until_advance_28 (tgt := 5) (by decide) ?_
    exact ih5 ((n9 + 1), t9, b9) _ _ _ ⟨(lv_sub hl [0, 1, 2] rfl), hP, hD, hS, ⟨by omega, by omega⟩, (fun q hq => (hs9 q hq).trans (hs8 q hq)), hU9⟩ (by (try dsimp only); omega)
