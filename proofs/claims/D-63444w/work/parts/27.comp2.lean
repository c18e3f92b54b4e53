set_option maxHeartbeats 4000000 in
set_option maxRecDepth 100000 in
theorem c_Formula_initA (l : Launch) (G : mm_G) {A : Nat → Prop} (o ck : Nat) (hck : ck < 8) (ext : List Value) (fv : Int32)  (hD : va_D A [(o, .inr (ck, [.null, .null, .int 0, .int 0, .int 0, .null, .int 0] ++ ext))]) : Met l y_Formula_init [.code y_Formula_init b_Formula_init 4 none] { frames := 1, cells := 1, slots := 24, locals := 12 } (mm_Pre G [.ref o, .null, .null, .int fv] (fun H => va_P G.1 cls_all [(o, .inr (ck, [.null, .null, .int 0, .int 0, .int 0, .null, .int 0] ++ ext))] H ∧ (∀ q, H.size ≤ q → A q))) (mm_Qv (fun H => ∃ q, va_P G.1 cls_all [(o, .inr (ck, [.null, .null, .int fv, .int 0, .int (bI true), .ref q, .int 0] ++ ext)), (q, .inl (G.2.1 1, 24, .inr (.inl (fun _ => 0))))] H ∧ va_D A [(o, .inr (ck, [.null, .null, .int fv, .int 0, .int (bI true), .ref q, .int 0] ++ ext)), (q, .inl (G.2.1 1, 24, .inr (.inl (fun _ => 0))))]) A) 1 24 A := by
  refine mm_of (by decide) (Nat.le_of_ble_eq_true rfl) ?_
  intro p e s m below meth c ls hx hb hr hk hml hown hnm hK h0 hl
  have hl : lv_has ls 4 [(0, .ref o), (1, .null), (2, .null), (3, .int fv)] := hl
  obtain ⟨hP, hA⟩ := h0
  have hS : va_S A s.heap s.heap [] := va_S.rf
  refine lv_aload_n hx hb d_Formula_init_0 rfl (lv_at hl 0 rfl) ?_
  refine W.objInit hx hb hown (hK.w kw_124) (hK.w kw_33) (hK.w kw_34) rfl (by rw [hml]; exact hl.1) rfl d_Formula_init_1 (Nat.le_of_ble_eq_true rfl) (Nat.le_of_ble_eq_true rfl) ?_
  refine W.eq (g2 := F0 m 4 ls []) rfl ?_
  refine lv_aload_n hx hb d_Formula_init_4 rfl (lv_at hl 0 rfl) ?_
  refine lv_iconst hx hb d_Formula_init_5 ci_1 ?_
  refine mm_ti (y := bI true) (by decide) ?_
  refine mm_put (v := .int (bI true)) hK hx hb hown (lp_Formula_7 ck hck) hP hD hS 0 rfl (bI_nar _) (bI_fit _) (Nat.lt_of_lt_of_le (by decide) (Nat.le_add_left 7 _)) d_Formula_init_6 (fun H locs hP hD hS => ?_)
  have hP : va_P G.1 cls_all [(o, .inr (ck, [.null, .null, .int 0, .int 0, .int (bI true), .null, .int 0] ++ ext))] H := hP
  have hD : va_D A [(o, .inr (ck, [.null, .null, .int 0, .int 0, .int (bI true), .null, .int 0] ++ ext))] := hD
  refine lv_aload_n hx hb d_Formula_init_9 rfl (lv_at hl 0 rfl) ?_
  refine lv_bipush (v := nI 24) hx hb d_Formula_init_10 (by decide) ?_
  refine mm_newa (atype := .long) (a0 := (24, .inr (.inl (fun _ => 0)))) hK hx hb kw_250 rfl 1 rfl hP hD hS hA (z_long 24) (by decide) (by decide) (by decide) (by decide) d_Formula_init_12 (fun q12 H hP hD hS => ?_)
  have hP : va_P G.1 cls_all [(o, .inr (ck, [.null, .null, .int 0, .int 0, .int (bI true), .null, .int 0] ++ ext)), (q12, .inl (G.2.1 1, 24, .inr (.inl (fun _ => 0))))] H := hP
  have hD : va_D A [(o, .inr (ck, [.null, .null, .int 0, .int 0, .int (bI true), .null, .int 0] ++ ext)), (q12, .inl (G.2.1 1, 24, .inr (.inl (fun _ => 0))))] := hD
  refine W.widen (k := 1) (n := 24) (by decide) (by decide) ?_
  refine mm_putF (v := .ref q12) hK hx hb hown hnm (lp_Formula_13 ck hck) hP hD hS 0 rfl rfl rfl (Nat.lt_of_lt_of_le (by decide) (Nat.le_add_left 7 _)) d_Formula_init_14 (fun H locs hP hD hS => ?_)
  have hP : va_P G.1 cls_all [(o, .inr (ck, [.null, .null, .int 0, .int 0, .int (bI true), .ref q12, .int 0] ++ ext)), (q12, .inl (G.2.1 1, 24, .inr (.inl (fun _ => 0))))] H := hP
  have hD : va_D A [(o, .inr (ck, [.null, .null, .int 0, .int 0, .int (bI true), .ref q12, .int 0] ++ ext)), (q12, .inl (G.2.1 1, 24, .inr (.inl (fun _ => 0))))] := hD
  refine lv_aload_n hx hb d_Formula_init_17 rfl (lv_at hl 0 rfl) ?_
  refine lv_aload_nN hx hb d_Formula_init_18 rfl (lv_at hl 1 rfl) ?_
  refine mm_putF (v := .null) hK hx hb hown hnm (lp_Formula_17 ck hck) hP hD hS 0 rfl rfl rfl (Nat.lt_of_lt_of_le (by decide) (Nat.le_add_left 7 _)) d_Formula_init_19 (fun H locs hP hD hS => ?_)
  have hP : va_P G.1 cls_all [(o, .inr (ck, [.null, .null, .int 0, .int 0, .int (bI true), .ref q12, .int 0] ++ ext)), (q12, .inl (G.2.1 1, 24, .inr (.inl (fun _ => 0))))] H := hP
  have hD : va_D A [(o, .inr (ck, [.null, .null, .int 0, .int 0, .int (bI true), .ref q12, .int 0] ++ ext)), (q12, .inl (G.2.1 1, 24, .inr (.inl (fun _ => 0))))] := hD
  refine lv_aload_n hx hb d_Formula_init_22 rfl (lv_at hl 0 rfl) ?_
  refine lv_aload_nN hx hb d_Formula_init_23 rfl (lv_at hl 2 rfl) ?_
  refine mm_putF (v := .null) hK hx hb hown hnm (lp_Formula_21 ck hck) hP hD hS 0 rfl rfl rfl (Nat.lt_of_lt_of_le (by decide) (Nat.le_add_left 7 _)) d_Formula_init_24 (fun H locs hP hD hS => ?_)
  have hP : va_P G.1 cls_all [(o, .inr (ck, [.null, .null, .int 0, .int 0, .int (bI true), .ref q12, .int 0] ++ ext)), (q12, .inl (G.2.1 1, 24, .inr (.inl (fun _ => 0))))] H := hP
  have hD : va_D A [(o, .inr (ck, [.null, .null, .int 0, .int 0, .int (bI true), .ref q12, .int 0] ++ ext)), (q12, .inl (G.2.1 1, 24, .inr (.inl (fun _ => 0))))] := hD
  refine lv_aload_n hx hb d_Formula_init_27 rfl (lv_at hl 0 rfl) ?_
  refine lv_iload_n hx hb d_Formula_init_28 rfl (lv_at hl 3 rfl) ?_
  refine mm_putF (v := .int fv) hK hx hb hown hnm (lp_Formula_24 ck hck) hP hD hS 0 rfl rfl rfl (Nat.lt_of_lt_of_le (by decide) (Nat.le_add_left 7 _)) d_Formula_init_29 (fun H locs hP hD hS => ?_)
  have hP : va_P G.1 cls_all [(o, .inr (ck, [.null, .null, .int fv, .int 0, .int (bI true), .ref q12, .int 0] ++ ext)), (q12, .inl (G.2.1 1, 24, .inr (.inl (fun _ => 0))))] H := hP
  have hD : va_D A [(o, .inr (ck, [.null, .null, .int fv, .int 0, .int (bI true), .ref q12, .int 0] ++ ext)), (q12, .inl (G.2.1 1, 24, .inr (.inl (fun _ => 0))))] := hD
  refine lv_aload_nN hx hb d_Formula_init_32 rfl (lv_at hl 1 rfl) ?_
  refine lv_ifnullN hx hb d_Formula_init_33 (tgt := 63) (by decide) ?_
  exact mm_vrQ hx hb hr hk hS d_Formula_init_63 ⟨_, hP, hD⟩
set_option maxHeartbeats 4000000 in
set_option maxRecDepth 100000 in
theorem c_Formula_initB (l : Launch) (G : mm_G) {A : Nat → Prop} (o ck : Nat) (hck : ck < 8) (ext : List Value) (fv : Int32) (ln cl : Nat) (hcl : cl < 8) (la0 la1 la5 la6 : Value) (lf lr : Nat) (lc : Bool) (lx : List Value) (hD : va_D A [(o, .inr (ck, [.null, .null, .int 0, .int 0, .int 0, .null, .int 0] ++ ext))]) (hRN : ∀ q ∈ ([(ln, .inr (cl, [la0, la1, .int (nI lf), .int (nI lr), .int (bI lc), la5, la6] ++ lx))] : va_W), ¬ A q.1) : Met l y_Formula_init [.code y_Formula_init b_Formula_init 4 none] { frames := 1, cells := 1, slots := 24, locals := 12 } (mm_Pre G [.ref o, .ref ln, .null, .int fv] (fun H => va_P G.1 cls_all [(o, .inr (ck, [.null, .null, .int 0, .int 0, .int 0, .null, .int 0] ++ ext))] H ∧ (∀ q, H.size ≤ q → A q) ∧ va_P G.1 cls_all [(ln, .inr (cl, [la0, la1, .int (nI lf), .int (nI lr), .int (bI lc), la5, la6] ++ lx))] H)) (mm_Qv (fun H => ∃ q, va_P G.1 cls_all [(o, .inr (ck, [.ref ln, .null, .int fv, .int 0, .int (bI lc), .ref q, .int 0] ++ ext)), (q, .inl (G.2.1 1, 24, .inr (.inl (fun _ => 0))))] H ∧ va_D A [(o, .inr (ck, [.ref ln, .null, .int fv, .int 0, .int (bI lc), .ref q, .int 0] ++ ext)), (q, .inl (G.2.1 1, 24, .inr (.inl (fun _ => 0))))]) A) 1 24 A := by
  refine mm_of (by decide) (Nat.le_of_ble_eq_true rfl) ?_
  intro p e s m below meth c ls hx hb hr hk hml hown hnm hK h0 hl
  have hl : lv_has ls 4 [(0, .ref o), (1, .ref ln), (2, .null), (3, .int fv)] := hl
  obtain ⟨hP, hA, hR⟩ := h0
  have hS : va_S A s.heap s.heap [] := va_S.rf
  refine lv_aload_n hx hb d_Formula_init_0 rfl (lv_at hl 0 rfl) ?_
  refine W.objInit hx hb hown (hK.w kw_124) (hK.w kw_33) (hK.w kw_34) rfl (by rw [hml]; exact hl.1) rfl d_Formula_init_1 (Nat.le_of_ble_eq_true rfl) (Nat.le_of_ble_eq_true rfl) ?_
  refine W.eq (g2 := F0 m 4 ls []) rfl ?_
  refine lv_aload_n hx hb d_Formula_init_4 rfl (lv_at hl 0 rfl) ?_
  refine lv_iconst hx hb d_Formula_init_5 ci_1 ?_
  refine mm_ti (y := bI true) (by decide) ?_
  refine mm_put (v := .int (bI true)) hK hx hb hown (lp_Formula_7 ck hck) hP hD hS 0 rfl (bI_nar _) (bI_fit _) (Nat.lt_of_lt_of_le (by decide) (Nat.le_add_left 7 _)) d_Formula_init_6 (fun H locs hP hD hS => ?_)
  have hP : va_P G.1 cls_all [(o, .inr (ck, [.null, .null, .int 0, .int 0, .int (bI true), .null, .int 0] ++ ext))] H := hP
  have hD : va_D A [(o, .inr (ck, [.null, .null, .int 0, .int 0, .int (bI true), .null, .int 0] ++ ext))] := hD
  refine lv_aload_n hx hb d_Formula_init_9 rfl (lv_at hl 0 rfl) ?_
  refine lv_bipush (v := nI 24) hx hb d_Formula_init_10 (by decide) ?_
  refine mm_newa (atype := .long) (a0 := (24, .inr (.inl (fun _ => 0)))) hK hx hb kw_250 rfl 1 rfl hP hD hS hA (z_long 24) (by decide) (by decide) (by decide) (by decide) d_Formula_init_12 (fun q12 H hP hD hS => ?_)
  have hP : va_P G.1 cls_all [(o, .inr (ck, [.null, .null, .int 0, .int 0, .int (bI true), .null, .int 0] ++ ext)), (q12, .inl (G.2.1 1, 24, .inr (.inl (fun _ => 0))))] H := hP
  have hD : va_D A [(o, .inr (ck, [.null, .null, .int 0, .int 0, .int (bI true), .null, .int 0] ++ ext)), (q12, .inl (G.2.1 1, 24, .inr (.inl (fun _ => 0))))] := hD
  refine W.widen (k := 1) (n := 24) (by decide) (by decide) ?_
  refine mm_putF (v := .ref q12) hK hx hb hown hnm (lp_Formula_13 ck hck) hP hD hS 0 rfl rfl rfl (Nat.lt_of_lt_of_le (by decide) (Nat.le_add_left 7 _)) d_Formula_init_14 (fun H locs hP hD hS => ?_)
  have hP : va_P G.1 cls_all [(o, .inr (ck, [.null, .null, .int 0, .int 0, .int (bI true), .ref q12, .int 0] ++ ext)), (q12, .inl (G.2.1 1, 24, .inr (.inl (fun _ => 0))))] H := hP
  have hD : va_D A [(o, .inr (ck, [.null, .null, .int 0, .int 0, .int (bI true), .ref q12, .int 0] ++ ext)), (q12, .inl (G.2.1 1, 24, .inr (.inl (fun _ => 0))))] := hD
  refine lv_aload_n hx hb d_Formula_init_17 rfl (lv_at hl 0 rfl) ?_
  refine lv_aload_n hx hb d_Formula_init_18 rfl (lv_at hl 1 rfl) ?_
  refine mm_putF (v := .ref ln) hK hx hb hown hnm (lp_Formula_17 ck hck) hP hD hS 0 rfl rfl rfl (Nat.lt_of_lt_of_le (by decide) (Nat.le_add_left 7 _)) d_Formula_init_19 (fun H locs hP hD hS => ?_)
  have hP : va_P G.1 cls_all [(o, .inr (ck, [.ref ln, .null, .int 0, .int 0, .int (bI true), .ref q12, .int 0] ++ ext)), (q12, .inl (G.2.1 1, 24, .inr (.inl (fun _ => 0))))] H := hP
  have hD : va_D A [(o, .inr (ck, [.ref ln, .null, .int 0, .int 0, .int (bI true), .ref q12, .int 0] ++ ext)), (q12, .inl (G.2.1 1, 24, .inr (.inl (fun _ => 0))))] := hD
  refine lv_aload_n hx hb d_Formula_init_22 rfl (lv_at hl 0 rfl) ?_
  refine lv_aload_nN hx hb d_Formula_init_23 rfl (lv_at hl 2 rfl) ?_
  refine mm_putF (v := .null) hK hx hb hown hnm (lp_Formula_21 ck hck) hP hD hS 0 rfl rfl rfl (Nat.lt_of_lt_of_le (by decide) (Nat.le_add_left 7 _)) d_Formula_init_24 (fun H locs hP hD hS => ?_)
  have hP : va_P G.1 cls_all [(o, .inr (ck, [.ref ln, .null, .int 0, .int 0, .int (bI true), .ref q12, .int 0] ++ ext)), (q12, .inl (G.2.1 1, 24, .inr (.inl (fun _ => 0))))] H := hP
  have hD : va_D A [(o, .inr (ck, [.ref ln, .null, .int 0, .int 0, .int (bI true), .ref q12, .int 0] ++ ext)), (q12, .inl (G.2.1 1, 24, .inr (.inl (fun _ => 0))))] := hD
  refine lv_aload_n hx hb d_Formula_init_27 rfl (lv_at hl 0 rfl) ?_
  refine lv_iload_n hx hb d_Formula_init_28 rfl (lv_at hl 3 rfl) ?_
  refine mm_putF (v := .int fv) hK hx hb hown hnm (lp_Formula_24 ck hck) hP hD hS 0 rfl rfl rfl (Nat.lt_of_lt_of_le (by decide) (Nat.le_add_left 7 _)) d_Formula_init_29 (fun H locs hP hD hS => ?_)
  have hP : va_P G.1 cls_all [(o, .inr (ck, [.ref ln, .null, .int fv, .int 0, .int (bI true), .ref q12, .int 0] ++ ext)), (q12, .inl (G.2.1 1, 24, .inr (.inl (fun _ => 0))))] H := hP
  have hD : va_D A [(o, .inr (ck, [.ref ln, .null, .int fv, .int 0, .int (bI true), .ref q12, .int 0] ++ ext)), (q12, .inl (G.2.1 1, 24, .inr (.inl (fun _ => 0))))] := hD
  refine lv_aload_n hx hb d_Formula_init_32 rfl (lv_at hl 1 rfl) ?_
  refine lv_ifnull hx hb d_Formula_init_33 ?_
  refine lv_aload_n hx hb d_Formula_init_36 rfl (lv_at hl 0 rfl) ?_
  refine lv_aload_n hx hb d_Formula_init_37 rfl (lv_at hl 1 rfl) ?_
  refine mm_get (v := .int (bI lc)) hK hx hb hown (lg_Formula_7 cl hcl) (mm_ro hR hRN hS) 0 rfl rfl d_Formula_init_38 ?_
  refine mm_ifeqB hx hb d_Formula_init_41 (tgt := 59) (by decide) (fun c41 => ?_) (fun c41 => ?_)
  · refine lv_iconst hx hb d_Formula_init_59 ci_0 ?_
    refine mm_ti (y := bI false) (by decide) ?_
    refine mm_put (v := .int (bI false)) hK hx hb hown (lp_Formula_7 ck hck) hP hD hS 0 rfl (bI_nar _) (bI_fit _) (Nat.lt_of_lt_of_le (by decide) (Nat.le_add_left 7 _)) d_Formula_init_60 (fun H locs hP hD hS => ?_)
    have hP : va_P G.1 cls_all [(o, .inr (ck, [.ref ln, .null, .int fv, .int 0, .int (bI false), .ref q12, .int 0] ++ ext)), (q12, .inl (G.2.1 1, 24, .inr (.inl (fun _ => 0))))] H := hP
    have hD : va_D A [(o, .inr (ck, [.ref ln, .null, .int fv, .int 0, .int (bI false), .ref q12, .int 0] ++ ext)), (q12, .inl (G.2.1 1, 24, .inr (.inl (fun _ => 0))))] := hD
    exact mm_vrQ hx hb hr hk hS d_Formula_init_63 ⟨_, by rw [c41]; exact hP, by rw [c41]; exact hD⟩
  · refine lv_aload_nN hx hb d_Formula_init_44 rfl (lv_at hl 2 rfl) ?_
    refine lv_ifnullN hx hb d_Formula_init_45 (tgt := 55) (by decide) ?_
    refine lv_iconst hx hb d_Formula_init_55 ci_1 ?_
    refine lv_goto hx hb d_Formula_init_56 (tgt := 60) (by decide) ?_
    refine mm_ti (y := bI true) (by decide) ?_
    refine mm_put (v := .int (bI true)) hK hx hb hown (lp_Formula_7 ck hck) hP hD hS 0 rfl (bI_nar _) (bI_fit _) (Nat.lt_of_lt_of_le (by decide) (Nat.le_add_left 7 _)) d_Formula_init_60 (fun H locs hP hD hS => ?_)
    have hP : va_P G.1 cls_all [(o, .inr (ck, [.ref ln, .null, .int fv, .int 0, .int (bI true), .ref q12, .int 0] ++ ext)), (q12, .inl (G.2.1 1, 24, .inr (.inl (fun _ => 0))))] H := hP
    have hD : va_D A [(o, .inr (ck, [.ref ln, .null, .int fv, .int 0, .int (bI true), .ref q12, .int 0] ++ ext)), (q12, .inl (G.2.1 1, 24, .inr (.inl (fun _ => 0))))] := hD
    exact mm_vrQ hx hb hr hk hS d_Formula_init_63 ⟨_, by rw [c41]; exact hP, by rw [c41]; exact hD⟩
set_option maxHeartbeats 4000000 in
set_option maxRecDepth 100000 in
theorem c_Formula_initC (l : Launch) (G : mm_G) {A : Nat → Prop} (o ck : Nat) (hck : ck < 8) (ext : List Value) (fv : Int32) (ln cl : Nat) (hcl : cl < 8) (la0 la1 la5 la6 : Value) (lf lr : Nat) (lc : Bool) (lx : List Value) (rn cr : Nat) (hcr : cr < 8) (ra0 ra1 ra5 ra6 : Value) (rf rr : Nat) (rc : Bool) (rx : List Value) (hD : va_D A [(o, .inr (ck, [.null, .null, .int 0, .int 0, .int 0, .null, .int 0] ++ ext))]) (hRN : ∀ q ∈ ([(ln, .inr (cl, [la0, la1, .int (nI lf), .int (nI lr), .int (bI lc), la5, la6] ++ lx)), (rn, .inr (cr, [ra0, ra1, .int (nI rf), .int (nI rr), .int (bI rc), ra5, ra6] ++ rx))] : va_W), ¬ A q.1) : Met l y_Formula_init [.code y_Formula_init b_Formula_init 4 none] { frames := 1, cells := 1, slots := 24, locals := 12 } (mm_Pre G [.ref o, .ref ln, .ref rn, .int fv] (fun H => va_P G.1 cls_all [(o, .inr (ck, [.null, .null, .int 0, .int 0, .int 0, .null, .int 0] ++ ext))] H ∧ (∀ q, H.size ≤ q → A q) ∧ va_P G.1 cls_all [(ln, .inr (cl, [la0, la1, .int (nI lf), .int (nI lr), .int (bI lc), la5, la6] ++ lx)), (rn, .inr (cr, [ra0, ra1, .int (nI rf), .int (nI rr), .int (bI rc), ra5, ra6] ++ rx))] H)) (mm_Qv (fun H => ∃ q, va_P G.1 cls_all [(o, .inr (ck, [.ref ln, .ref rn, .int fv, .int 0, .int (bI (lc && rc)), .ref q, .int 0] ++ ext)), (q, .inl (G.2.1 1, 24, .inr (.inl (fun _ => 0))))] H ∧ va_D A [(o, .inr (ck, [.ref ln, .ref rn, .int fv, .int 0, .int (bI (lc && rc)), .ref q, .int 0] ++ ext)), (q, .inl (G.2.1 1, 24, .inr (.inl (fun _ => 0))))]) A) 1 24 A := by
  refine mm_of (by decide) (Nat.le_of_ble_eq_true rfl) ?_
  intro p e s m below meth c ls hx hb hr hk hml hown hnm hK h0 hl
  have hl : lv_has ls 4 [(0, .ref o), (1, .ref ln), (2, .ref rn), (3, .int fv)] := hl
  obtain ⟨hP, hA, hR⟩ := h0
  have hS : va_S A s.heap s.heap [] := va_S.rf
  refine lv_aload_n hx hb d_Formula_init_0 rfl (lv_at hl 0 rfl) ?_
  refine W.objInit hx hb hown (hK.w kw_124) (hK.w kw_33) (hK.w kw_34) rfl (by rw [hml]; exact hl.1) rfl d_Formula_init_1 (Nat.le_of_ble_eq_true rfl) (Nat.le_of_ble_eq_true rfl) ?_
  refine W.eq (g2 := F0 m 4 ls []) rfl ?_
  refine lv_aload_n hx hb d_Formula_init_4 rfl (lv_at hl 0 rfl) ?_
  refine lv_iconst hx hb d_Formula_init_5 ci_1 ?_
  refine mm_ti (y := bI true) (by decide) ?_
  refine mm_put (v := .int (bI true)) hK hx hb hown (lp_Formula_7 ck hck) hP hD hS 0 rfl (bI_nar _) (bI_fit _) (Nat.lt_of_lt_of_le (by decide) (Nat.le_add_left 7 _)) d_Formula_init_6 (fun H locs hP hD hS => ?_)
  have hP : va_P G.1 cls_all [(o, .inr (ck, [.null, .null, .int 0, .int 0, .int (bI true), .null, .int 0] ++ ext))] H := hP
  have hD : va_D A [(o, .inr (ck, [.null, .null, .int 0, .int 0, .int (bI true), .null, .int 0] ++ ext))] := hD
  refine lv_aload_n hx hb d_Formula_init_9 rfl (lv_at hl 0 rfl) ?_
  refine lv_bipush (v := nI 24) hx hb d_Formula_init_10 (by decide) ?_
  refine mm_newa (atype := .long) (a0 := (24, .inr (.inl (fun _ => 0)))) hK hx hb kw_250 rfl 1 rfl hP hD hS hA (z_long 24) (by decide) (by decide) (by decide) (by decide) d_Formula_init_12 (fun q12 H hP hD hS => ?_)
  have hP : va_P G.1 cls_all [(o, .inr (ck, [.null, .null, .int 0, .int 0, .int (bI true), .null, .int 0] ++ ext)), (q12, .inl (G.2.1 1, 24, .inr (.inl (fun _ => 0))))] H := hP
  have hD : va_D A [(o, .inr (ck, [.null, .null, .int 0, .int 0, .int (bI true), .null, .int 0] ++ ext)), (q12, .inl (G.2.1 1, 24, .inr (.inl (fun _ => 0))))] := hD
  refine W.widen (k := 1) (n := 24) (by decide) (by decide) ?_
  refine mm_putF (v := .ref q12) hK hx hb hown hnm (lp_Formula_13 ck hck) hP hD hS 0 rfl rfl rfl (Nat.lt_of_lt_of_le (by decide) (Nat.le_add_left 7 _)) d_Formula_init_14 (fun H locs hP hD hS => ?_)
  have hP : va_P G.1 cls_all [(o, .inr (ck, [.null, .null, .int 0, .int 0, .int (bI true), .ref q12, .int 0] ++ ext)), (q12, .inl (G.2.1 1, 24, .inr (.inl (fun _ => 0))))] H := hP
  have hD : va_D A [(o, .inr (ck, [.null, .null, .int 0, .int 0, .int (bI true), .ref q12, .int 0] ++ ext)), (q12, .inl (G.2.1 1, 24, .inr (.inl (fun _ => 0))))] := hD
  refine lv_aload_n hx hb d_Formula_init_17 rfl (lv_at hl 0 rfl) ?_
  refine lv_aload_n hx hb d_Formula_init_18 rfl (lv_at hl 1 rfl) ?_
  refine mm_putF (v := .ref ln) hK hx hb hown hnm (lp_Formula_17 ck hck) hP hD hS 0 rfl rfl rfl (Nat.lt_of_lt_of_le (by decide) (Nat.le_add_left 7 _)) d_Formula_init_19 (fun H locs hP hD hS => ?_)
  have hP : va_P G.1 cls_all [(o, .inr (ck, [.ref ln, .null, .int 0, .int 0, .int (bI true), .ref q12, .int 0] ++ ext)), (q12, .inl (G.2.1 1, 24, .inr (.inl (fun _ => 0))))] H := hP
  have hD : va_D A [(o, .inr (ck, [.ref ln, .null, .int 0, .int 0, .int (bI true), .ref q12, .int 0] ++ ext)), (q12, .inl (G.2.1 1, 24, .inr (.inl (fun _ => 0))))] := hD
  refine lv_aload_n hx hb d_Formula_init_22 rfl (lv_at hl 0 rfl) ?_
  refine lv_aload_n hx hb d_Formula_init_23 rfl (lv_at hl 2 rfl) ?_
  refine mm_putF (v := .ref rn) hK hx hb hown hnm (lp_Formula_21 ck hck) hP hD hS 0 rfl rfl rfl (Nat.lt_of_lt_of_le (by decide) (Nat.le_add_left 7 _)) d_Formula_init_24 (fun H locs hP hD hS => ?_)
  have hP : va_P G.1 cls_all [(o, .inr (ck, [.ref ln, .ref rn, .int 0, .int 0, .int (bI true), .ref q12, .int 0] ++ ext)), (q12, .inl (G.2.1 1, 24, .inr (.inl (fun _ => 0))))] H := hP
  have hD : va_D A [(o, .inr (ck, [.ref ln, .ref rn, .int 0, .int 0, .int (bI true), .ref q12, .int 0] ++ ext)), (q12, .inl (G.2.1 1, 24, .inr (.inl (fun _ => 0))))] := hD
  refine lv_aload_n hx hb d_Formula_init_27 rfl (lv_at hl 0 rfl) ?_
  refine lv_iload_n hx hb d_Formula_init_28 rfl (lv_at hl 3 rfl) ?_
  refine mm_putF (v := .int fv) hK hx hb hown hnm (lp_Formula_24 ck hck) hP hD hS 0 rfl rfl rfl (Nat.lt_of_lt_of_le (by decide) (Nat.le_add_left 7 _)) d_Formula_init_29 (fun H locs hP hD hS => ?_)
  have hP : va_P G.1 cls_all [(o, .inr (ck, [.ref ln, .ref rn, .int fv, .int 0, .int (bI true), .ref q12, .int 0] ++ ext)), (q12, .inl (G.2.1 1, 24, .inr (.inl (fun _ => 0))))] H := hP
  have hD : va_D A [(o, .inr (ck, [.ref ln, .ref rn, .int fv, .int 0, .int (bI true), .ref q12, .int 0] ++ ext)), (q12, .inl (G.2.1 1, 24, .inr (.inl (fun _ => 0))))] := hD
  refine lv_aload_n hx hb d_Formula_init_32 rfl (lv_at hl 1 rfl) ?_
  refine lv_ifnull hx hb d_Formula_init_33 ?_
  refine lv_aload_n hx hb d_Formula_init_36 rfl (lv_at hl 0 rfl) ?_
  refine lv_aload_n hx hb d_Formula_init_37 rfl (lv_at hl 1 rfl) ?_
  refine mm_get (v := .int (bI lc)) hK hx hb hown (lg_Formula_7 cl hcl) (mm_ro hR hRN hS) 0 rfl rfl d_Formula_init_38 ?_
  refine mm_ifeqB hx hb d_Formula_init_41 (tgt := 59) (by decide) (fun c41 => ?_) (fun c41 => ?_)
  · refine lv_iconst hx hb d_Formula_init_59 ci_0 ?_
    refine mm_ti (y := bI false) (by decide) ?_
    refine mm_put (v := .int (bI false)) hK hx hb hown (lp_Formula_7 ck hck) hP hD hS 0 rfl (bI_nar _) (bI_fit _) (Nat.lt_of_lt_of_le (by decide) (Nat.le_add_left 7 _)) d_Formula_init_60 (fun H locs hP hD hS => ?_)
    have hP : va_P G.1 cls_all [(o, .inr (ck, [.ref ln, .ref rn, .int fv, .int 0, .int (bI false), .ref q12, .int 0] ++ ext)), (q12, .inl (G.2.1 1, 24, .inr (.inl (fun _ => 0))))] H := hP
    have hD : va_D A [(o, .inr (ck, [.ref ln, .ref rn, .int fv, .int 0, .int (bI false), .ref q12, .int 0] ++ ext)), (q12, .inl (G.2.1 1, 24, .inr (.inl (fun _ => 0))))] := hD
    exact mm_vrQ hx hb hr hk hS d_Formula_init_63 ⟨_, by rw [c41]; exact hP, by rw [c41]; exact hD⟩
  · refine lv_aload_n hx hb d_Formula_init_44 rfl (lv_at hl 2 rfl) ?_
    refine lv_ifnull hx hb d_Formula_init_45 ?_
    refine lv_aload_n hx hb d_Formula_init_48 rfl (lv_at hl 2 rfl) ?_
    refine mm_get (v := .int (bI rc)) hK hx hb hown (lg_Formula_7 cr hcr) (mm_ro hR hRN hS) 1 rfl rfl d_Formula_init_49 ?_
    refine mm_ifeqB hx hb d_Formula_init_52 (tgt := 59) (by decide) (fun c52 => ?_) (fun c52 => ?_)
    · refine lv_iconst hx hb d_Formula_init_59 ci_0 ?_
      refine mm_ti (y := bI false) (by decide) ?_
      refine mm_put (v := .int (bI false)) hK hx hb hown (lp_Formula_7 ck hck) hP hD hS 0 rfl (bI_nar _) (bI_fit _) (Nat.lt_of_lt_of_le (by decide) (Nat.le_add_left 7 _)) d_Formula_init_60 (fun H locs hP hD hS => ?_)
      have hP : va_P G.1 cls_all [(o, .inr (ck, [.ref ln, .ref rn, .int fv, .int 0, .int (bI false), .ref q12, .int 0] ++ ext)), (q12, .inl (G.2.1 1, 24, .inr (.inl (fun _ => 0))))] H := hP
      have hD : va_D A [(o, .inr (ck, [.ref ln, .ref rn, .int fv, .int 0, .int (bI false), .ref q12, .int 0] ++ ext)), (q12, .inl (G.2.1 1, 24, .inr (.inl (fun _ => 0))))] := hD
      exact mm_vrQ hx hb hr hk hS d_Formula_init_63 ⟨_, by rw [c41, c52]; exact hP, by rw [c41, c52]; exact hD⟩
    · refine lv_iconst hx hb d_Formula_init_55 ci_1 ?_
      refine lv_goto hx hb d_Formula_init_56 (tgt := 60) (by decide) ?_
      refine mm_ti (y := bI true) (by decide) ?_
      refine mm_put (v := .int (bI true)) hK hx hb hown (lp_Formula_7 ck hck) hP hD hS 0 rfl (bI_nar _) (bI_fit _) (Nat.lt_of_lt_of_le (by decide) (Nat.le_add_left 7 _)) d_Formula_init_60 (fun H locs hP hD hS => ?_)
      have hP : va_P G.1 cls_all [(o, .inr (ck, [.ref ln, .ref rn, .int fv, .int 0, .int (bI true), .ref q12, .int 0] ++ ext)), (q12, .inl (G.2.1 1, 24, .inr (.inl (fun _ => 0))))] H := hP
      have hD : va_D A [(o, .inr (ck, [.ref ln, .ref rn, .int fv, .int 0, .int (bI true), .ref q12, .int 0] ++ ext)), (q12, .inl (G.2.1 1, 24, .inr (.inl (fun _ => 0))))] := hD
      exact mm_vrQ hx hb hr hk hS d_Formula_init_63 ⟨_, by rw [c41, c52]; exact hP, by rw [c41, c52]; exact hD⟩
set_option maxHeartbeats 4000000 in
set_option maxRecDepth 100000 in
theorem c_Formula_reset (l : Launch) (G : mm_G) {A : Nat → Prop} (o ck : Nat) (hck : ck < 8) (ext : List Value) (v0 v1 v2 v3 v4 v5 v6 : Value) (hD : va_D A [(o, .inr (ck, [v0, v1, v2, v3, v4, v5, v6] ++ ext))]) : Met l y_Formula_reset [.code y_Formula_reset b_Formula_reset 1 none] { frames := 0, cells := 0, slots := 0, locals := 0 } (mm_Pre G [.ref o] (fun H => va_P G.1 cls_all [(o, .inr (ck, [v0, v1, v2, v3, v4, v5, v6] ++ ext))] H)) (mm_Qv (fun H => va_P G.1 cls_all [(o, .inr (ck, [v0, v1, v2, v3, v4, v5, .int (nI 0)] ++ ext))] H) A) 0 0 A := by
  refine mm_of (by decide) (Nat.le_of_ble_eq_true rfl) ?_
  intro p e s m below meth c ls hx hb hr hk hml hown hnm hK hP hl
  have hl : lv_has ls 1 [(0, .ref o)] := hl
  have hS : va_S A s.heap s.heap [] := va_S.rf
  refine lv_aload_n hx hb d_Formula_reset_0 rfl (lv_at hl 0 rfl) ?_
  refine lv_iconst hx hb d_Formula_reset_1 ci_0 ?_
  refine mm_put (v := .int (nI 0)) hK hx hb hown (lp_Formula_28 ck hck) hP hD hS 0 rfl rfl rfl (Nat.lt_of_lt_of_le (by decide) (Nat.le_add_left 7 _)) d_Formula_reset_2 (fun H locs hP hD hS => ?_)
  have hP : va_P G.1 cls_all [(o, .inr (ck, [v0, v1, v2, v3, v4, v5, .int (nI 0)] ++ ext))] H := hP
  have hD : va_D A [(o, .inr (ck, [v0, v1, v2, v3, v4, v5, .int (nI 0)] ++ ext))] := hD
  exact mm_vrQ hx hb hr hk hS d_Formula_reset_5 hP
set_option maxHeartbeats 4000000 in
set_option maxRecDepth 100000 in
theorem c_Since_reset (l : Launch) (G : mm_G) {A : Nat → Prop} (o : Nat) (v0 v1 v2 v3 v4 v5 v6 v7 v8 v9 : Value) (hD : va_D A [(o, .inr (6, [v0, v1, v2, v3, v4, v5, v6, v7, v8, v9]))]) : Met l y_Since_reset [.code y_Since_reset b_Since_reset 1 none] { frames := 0, cells := 0, slots := 0, locals := 0 } (mm_Pre G [.ref o] (fun H => va_P G.1 cls_all [(o, .inr (6, [v0, v1, v2, v3, v4, v5, v6, v7, v8, v9]))] H)) (mm_Qv (fun H => va_P G.1 cls_all [(o, .inr (6, [v0, v1, v2, v3, v4, v5, .int (nI 0), v7, v8, .int (nI 0)]))] H) A) 0 0 A := by
  refine mm_of (by decide) (Nat.le_of_ble_eq_true rfl) ?_
  intro p e s m below meth c ls hx hb hr hk hml hown hnm hK hP hl
  have hl : lv_has ls 1 [(0, .ref o)] := hl
  have hS : va_S A s.heap s.heap [] := va_S.rf
  refine lv_aload_n hx hb d_Since_reset_0 rfl (lv_at hl 0 rfl) ?_
  refine lv_iconst hx hb d_Since_reset_1 ci_0 ?_
  refine mm_put (v := .int (nI 0)) hK hx hb hown lp_Since_27 hP hD hS 0 rfl rfl rfl (Nat.le_of_ble_eq_true rfl) d_Since_reset_2 (fun H locs hP hD hS => ?_)
  have hP : va_P G.1 cls_all [(o, .inr (6, [v0, v1, v2, v3, v4, v5, .int (nI 0), v7, v8, v9]))] H := hP
  have hD : va_D A [(o, .inr (6, [v0, v1, v2, v3, v4, v5, .int (nI 0), v7, v8, v9]))] := hD
  refine lv_aload_n hx hb d_Since_reset_5 rfl (lv_at hl 0 rfl) ?_
  refine lv_iconst hx hb d_Since_reset_6 ci_0 ?_
  refine mm_put (v := .int (nI 0)) hK hx hb hown lp_Since_30 hP hD hS 0 rfl rfl rfl (Nat.le_of_ble_eq_true rfl) d_Since_reset_7 (fun H locs hP hD hS => ?_)
  have hP : va_P G.1 cls_all [(o, .inr (6, [v0, v1, v2, v3, v4, v5, .int (nI 0), v7, v8, .int (nI 0)]))] H := hP
  have hD : va_D A [(o, .inr (6, [v0, v1, v2, v3, v4, v5, .int (nI 0), v7, v8, .int (nI 0)]))] := hD
  exact mm_vrQ hx hb hr hk hS d_Since_reset_10 hP
set_option maxHeartbeats 4000000 in
set_option maxRecDepth 100000 in
theorem c_Until_reset (l : Launch) (G : mm_G) {A : Nat → Prop} (o : Nat) (v0 v1 v2 v3 v4 v5 v6 v7 v8 v9 : Value) (hD : va_D A [(o, .inr (7, [v0, v1, v2, v3, v4, v5, v6, v7, v8, v9]))]) : Met l y_Until_reset [.code y_Until_reset b_Until_reset 1 none] { frames := 0, cells := 0, slots := 0, locals := 0 } (mm_Pre G [.ref o] (fun H => va_P G.1 cls_all [(o, .inr (7, [v0, v1, v2, v3, v4, v5, v6, v7, v8, v9]))] H)) (mm_Qv (fun H => va_P G.1 cls_all [(o, .inr (7, [v0, v1, v2, v3, v4, v5, .int (nI 0), v7, v8, .int (nI 0)]))] H) A) 0 0 A := by
  refine mm_of (by decide) (Nat.le_of_ble_eq_true rfl) ?_
  intro p e s m below meth c ls hx hb hr hk hml hown hnm hK hP hl
  have hl : lv_has ls 1 [(0, .ref o)] := hl
  have hS : va_S A s.heap s.heap [] := va_S.rf
  refine lv_aload_n hx hb d_Until_reset_0 rfl (lv_at hl 0 rfl) ?_
  refine lv_iconst hx hb d_Until_reset_1 ci_0 ?_
  refine mm_put (v := .int (nI 0)) hK hx hb hown lp_Until_25 hP hD hS 0 rfl rfl rfl (Nat.le_of_ble_eq_true rfl) d_Until_reset_2 (fun H locs hP hD hS => ?_)
  have hP : va_P G.1 cls_all [(o, .inr (7, [v0, v1, v2, v3, v4, v5, .int (nI 0), v7, v8, v9]))] H := hP
  have hD : va_D A [(o, .inr (7, [v0, v1, v2, v3, v4, v5, .int (nI 0), v7, v8, v9]))] := hD
  refine lv_aload_n hx hb d_Until_reset_5 rfl (lv_at hl 0 rfl) ?_
  refine lv_iconst hx hb d_Until_reset_6 ci_0 ?_
  refine mm_put (v := .int (nI 0)) hK hx hb hown lp_Until_28 hP hD hS 0 rfl rfl rfl (Nat.le_of_ble_eq_true rfl) d_Until_reset_7 (fun H locs hP hD hS => ?_)
  have hP : va_P G.1 cls_all [(o, .inr (7, [v0, v1, v2, v3, v4, v5, .int (nI 0), v7, v8, .int (nI 0)]))] H := hP
  have hD : va_D A [(o, .inr (7, [v0, v1, v2, v3, v4, v5, .int (nI 0), v7, v8, .int (nI 0)]))] := hD
  exact mm_vrQ hx hb hr hk hS d_Until_reset_10 hP
set_option maxHeartbeats 4000000 in
set_option maxRecDepth 100000 in
theorem c_Formula_both (l : Launch) (G : mm_G) (o ck : Nat) (hck : ck < 8) (ext : List Value) (v2 v3 v4 v5 v6 : Value) (ln cl : Nat) (hcl : cl < 8) (la0 la1 la2 la3 la4 la5 : Value) (le : Nat) (lx : List Value) (rn cr : Nat) (hcr : cr < 8) (ra0 ra1 ra2 ra3 ra4 ra5 : Value) (re : Nat) (rx : List Value) (h1 : le < 100) (h2 : re < 100) : Met l y_Formula_both [.code y_Formula_both b_Formula_both 1 (some .int)] { frames := 1, cells := 0, slots := 0, locals := 13 } (mm_Pre G [.ref o] (fun H => va_P G.1 cls_all [(o, .inr (ck, [.ref ln, .ref rn, v2, v3, v4, v5, v6] ++ ext)), (ln, .inr (cl, [la0, la1, la2, la3, la4, la5, .int (nI le)] ++ lx)), (rn, .inr (cr, [ra0, ra1, ra2, ra3, ra4, ra5, .int (nI re)] ++ rx))] H)) (vp_Si (fun r => r = nI (min le re))) 0 0 (fun _ => False) := by
  refine mm_of (by decide) (Nat.le_of_ble_eq_true rfl) ?_
  intro p e s m below meth c ls hx hb hr hk hml hown hnm hK hP hl
  have hl : lv_has ls 1 [(0, .ref o)] := hl
  refine lv_aload_n hx hb d_Formula_both_0 rfl (lv_at hl 0 rfl) ?_
  refine mm_get (v := .ref ln) hK hx hb hown (lg_Formula_17 ck hck) hP 0 rfl rfl d_Formula_both_1 ?_
  refine mm_get (v := .int (nI le)) hK hx hb hown (lg_Formula_28 cl hcl) hP 1 rfl rfl d_Formula_both_4 ?_
  refine lv_aload_n hx hb d_Formula_both_7 rfl (lv_at hl 0 rfl) ?_
  refine mm_get (v := .ref rn) hK hx hb hown (lg_Formula_21 ck hck) hP 0 rfl rfl d_Formula_both_8 ?_
  refine mm_get (v := .int (nI re)) hK hx hb hown (lg_Formula_28 cr hcr) hP 2 rfl rfl d_Formula_both_11 ?_
  refine va_mmin hx hb (hml.trans hl.1.symm) hown (hK.w kw_649) (hK.w kw_309) (hK.w kw_10) (hK.w kw_310) (by decide) (Nat.le_of_ble_eq_true rfl) (by decide) (by decide) d_Formula_both_14 ?_
  refine mm_ti (y := nI (min le re)) (mn_lem (by omega) (by omega)) ?_
  exact mm_irS hx hb hr hk d_Formula_both_17 rfl
set_option maxHeartbeats 4000000 in
set_option maxRecDepth 100000 in
theorem c_Atom_init (l : Launch) (G : mm_G) {A : Nat → Prop} (o : Nat) (rl a b : Nat) (ha : a < 8) (hb9 : b < 8)  (hD : va_D A [(o, .inr (0, [.null, .null, .int 0, .int 0, .int 0, .null, .int 0, .int 0, .int 0, .int 0]))]) : Met l y_Atom_init [.code y_Atom_init b_Atom_init 4 none] { frames := 2, cells := 1, slots := 24, locals := 35 } (mm_Pre G [.ref o, .int (nI rl), .int (nI a), .int (nI b)] (fun H => va_P G.1 cls_all [(o, .inr (0, [.null, .null, .int 0, .int 0, .int 0, .null, .int 0, .int 0, .int 0, .int 0]))] H ∧ (∀ q, H.size ≤ q → A q))) (mm_Qv (fun H => ∃ q, va_P G.1 cls_all [(o, .inr (0, [.null, .null, .int (nI (vrN a ||| vrN b)), .int (nI (vrN a ||| vrN b)), .int (bI true), .ref q, .int 0, .int (nI rl), .int (nI a), .int (nI b)])), (q, .inl (G.2.1 1, 24, .inr (.inl (fun _ => 0))))] H ∧ va_D A [(o, .inr (0, [.null, .null, .int (nI (vrN a ||| vrN b)), .int (nI (vrN a ||| vrN b)), .int (bI true), .ref q, .int 0, .int (nI rl), .int (nI a), .int (nI b)])), (q, .inl (G.2.1 1, 24, .inr (.inl (fun _ => 0))))]) A) 1 24 A := by
  refine mm_of (by decide) (Nat.le_of_ble_eq_true rfl) ?_
  intro p e s m below meth c ls hx hb hr hk hml hown hnm hK h0 hl
  have hl : lv_has ls 4 [(0, .ref o), (1, .int (nI rl)), (2, .int (nI a)), (3, .int (nI b))] := hl
  obtain ⟨hP, hA⟩ := h0
  have hS : va_S A s.heap s.heap [] := va_S.rf
  refine lv_aload_n hx hb d_Atom_init_0 rfl (lv_at hl 0 rfl) ?_
  refine lv_null hx hb d_Atom_init_1 ?_
  refine lv_null hx hb d_Atom_init_2 ?_
  refine lv_iload_n hx hb d_Atom_init_3 rfl (lv_at hl 2 rfl) ?_
  refine mm_si (mm_runSN hK ⟨hx, hb, hml, hown⟩ lk_Atom_1 (c_Mon_variables l G a (by omega)) ⟨rfl, rfl, by decide, by decide⟩ trivial rfl hl.1 rfl (Nat.le_of_ble_eq_true rfl) ⟨by decide, by decide⟩ d_Atom_init_4) (fun r4 e4 => ?_)
  subst e4
  refine lv_iload_n hx hb d_Atom_init_7 rfl (lv_at hl 3 rfl) ?_
  refine mm_si (mm_runSN hK ⟨hx, hb, hml, hown⟩ lk_Atom_1 (c_Mon_variables l G b (by omega)) ⟨rfl, rfl, by decide, by decide⟩ trivial rfl hl.1 rfl (Nat.le_of_ble_eq_true rfl) ⟨by decide, by decide⟩ d_Atom_init_8) (fun r8 e8 => ?_)
  subst e8
  refine lv_ior hx hb d_Atom_init_11 ?_
  refine mm_ti (y := nI (vrN a ||| vrN b)) (or8 _ vr8 _ vr8) ?_
  refine mm_qv (mm_runI hK ⟨hx, hb, hml, hown⟩ lk_Atom_7 (c_Formula_initA l G o 0 (by decide) [.int 0, .int 0, .int 0] (nI (vrN a ||| vrN b))  hD) ⟨rfl, rfl, by decide, by decide⟩ ⟨hP, (fun q h => hA q (Nat.le_trans hS.1 h))⟩ rfl hl.1 rfl (Nat.le_of_ble_eq_true rfl) ⟨by decide, by decide⟩ d_Atom_init_12) hS (fun q h => h) (fun H locs e12 hz1 hk1 hS => ?_)
  obtain ⟨q12, hP, hD⟩ := e12
  have hP : va_P G.1 cls_all [(o, .inr (0, [.null, .null, .int (nI (vrN a ||| vrN b)), .int 0, .int (bI true), .ref q12, .int 0, .int 0, .int 0, .int 0])), (q12, .inl (G.2.1 1, 24, .inr (.inl (fun _ => 0))))] H := hP
  have hD : va_D A [(o, .inr (0, [.null, .null, .int (nI (vrN a ||| vrN b)), .int 0, .int (bI true), .ref q12, .int 0, .int 0, .int 0, .int 0])), (q12, .inl (G.2.1 1, 24, .inr (.inl (fun _ => 0))))] := hD
  refine W.widen (k := 1) (n := 24) (by decide) (by decide) ?_
  refine lv_aload_n hx hb d_Atom_init_15 rfl (lv_at hl 0 rfl) ?_
  refine lv_iload_n hx hb d_Atom_init_16 rfl (lv_at hl 1 rfl) ?_
  refine mm_putF (v := .int (nI rl)) hK hx hb hown hnm lp_Atom_13 hP hD hS 0 rfl rfl rfl (Nat.le_of_ble_eq_true rfl) d_Atom_init_17 (fun H locs hP hD hS => ?_)
  have hP : va_P G.1 cls_all [(o, .inr (0, [.null, .null, .int (nI (vrN a ||| vrN b)), .int 0, .int (bI true), .ref q12, .int 0, .int (nI rl), .int 0, .int 0])), (q12, .inl (G.2.1 1, 24, .inr (.inl (fun _ => 0))))] H := hP
  have hD : va_D A [(o, .inr (0, [.null, .null, .int (nI (vrN a ||| vrN b)), .int 0, .int (bI true), .ref q12, .int 0, .int (nI rl), .int 0, .int 0])), (q12, .inl (G.2.1 1, 24, .inr (.inl (fun _ => 0))))] := hD
  refine lv_aload_n hx hb d_Atom_init_20 rfl (lv_at hl 0 rfl) ?_
  refine lv_iload_n hx hb d_Atom_init_21 rfl (lv_at hl 2 rfl) ?_
  refine mm_putF (v := .int (nI a)) hK hx hb hown hnm lp_Atom_19 hP hD hS 0 rfl rfl rfl (Nat.le_of_ble_eq_true rfl) d_Atom_init_22 (fun H locs hP hD hS => ?_)
  have hP : va_P G.1 cls_all [(o, .inr (0, [.null, .null, .int (nI (vrN a ||| vrN b)), .int 0, .int (bI true), .ref q12, .int 0, .int (nI rl), .int (nI a), .int 0])), (q12, .inl (G.2.1 1, 24, .inr (.inl (fun _ => 0))))] H := hP
  have hD : va_D A [(o, .inr (0, [.null, .null, .int (nI (vrN a ||| vrN b)), .int 0, .int (bI true), .ref q12, .int 0, .int (nI rl), .int (nI a), .int 0])), (q12, .inl (G.2.1 1, 24, .inr (.inl (fun _ => 0))))] := hD
  refine lv_aload_n hx hb d_Atom_init_25 rfl (lv_at hl 0 rfl) ?_
  refine lv_iload_n hx hb d_Atom_init_26 rfl (lv_at hl 3 rfl) ?_
  refine mm_putF (v := .int (nI b)) hK hx hb hown hnm lp_Atom_22 hP hD hS 0 rfl rfl rfl (Nat.le_of_ble_eq_true rfl) d_Atom_init_27 (fun H locs hP hD hS => ?_)
  have hP : va_P G.1 cls_all [(o, .inr (0, [.null, .null, .int (nI (vrN a ||| vrN b)), .int 0, .int (bI true), .ref q12, .int 0, .int (nI rl), .int (nI a), .int (nI b)])), (q12, .inl (G.2.1 1, 24, .inr (.inl (fun _ => 0))))] H := hP
  have hD : va_D A [(o, .inr (0, [.null, .null, .int (nI (vrN a ||| vrN b)), .int 0, .int (bI true), .ref q12, .int 0, .int (nI rl), .int (nI a), .int (nI b)])), (q12, .inl (G.2.1 1, 24, .inr (.inl (fun _ => 0))))] := hD
  refine lv_aload_n hx hb d_Atom_init_30 rfl (lv_at hl 0 rfl) ?_
  refine lv_aload_n hx hb d_Atom_init_31 rfl (lv_at hl 0 rfl) ?_
  refine mm_get (v := .int (nI (vrN a ||| vrN b))) hK hx hb hown lg_Atom_25 hP 0 rfl rfl d_Atom_init_32 ?_
  refine mm_put (v := .int (nI (vrN a ||| vrN b))) hK hx hb hown lp_Atom_28 hP hD hS 0 rfl rfl rfl (Nat.le_of_ble_eq_true rfl) d_Atom_init_35 (fun H locs hP hD hS => ?_)
  have hP : va_P G.1 cls_all [(o, .inr (0, [.null, .null, .int (nI (vrN a ||| vrN b)), .int (nI (vrN a ||| vrN b)), .int (bI true), .ref q12, .int 0, .int (nI rl), .int (nI a), .int (nI b)])), (q12, .inl (G.2.1 1, 24, .inr (.inl (fun _ => 0))))] H := hP
  have hD : va_D A [(o, .inr (0, [.null, .null, .int (nI (vrN a ||| vrN b)), .int (nI (vrN a ||| vrN b)), .int (bI true), .ref q12, .int 0, .int (nI rl), .int (nI a), .int (nI b)])), (q12, .inl (G.2.1 1, 24, .inr (.inl (fun _ => 0))))] := hD
  exact mm_vrQ hx hb hr hk hS d_Atom_init_38 ⟨_, hP, hD⟩
set_option maxHeartbeats 4000000 in
set_option maxRecDepth 100000 in
theorem c_Compare_init (l : Launch) (G : mm_G) {A : Nat → Prop} (Z : Nat × Nat) (o : Nat) (ls0 : Bool) (a b : Nat) (ha : a < 8) (ha3 : a ≠ 3) (hb9 : b < 8) (hb3 : b ≠ 3)  (hD : va_D A [(o, .inr (1, [.null, .null, .int 0, .int 0, .int 0, .null, .int 0, .long 0]))]) : Met l y_Compare_init [.code y_Compare_init b_Compare_init 9 none] { frames := 2, cells := 1, slots := 24, locals := 35 } (mn_Pre G A Z [.ref o, .int (bI ls0), .int (nI a), .int (nI b)] (fun H => va_P G.1 cls_all [(o, .inr (1, [.null, .null, .int 0, .int 0, .int 0, .null, .int 0, .long 0]))] H ∧ (∀ q, H.size ≤ q → A q))) (mm_Qv (fun H => ∃ q, va_P G.1 cls_all [(o, .inr (1, [.null, .null, .int (nI (vrN a ||| vrN b)), .int (nI (cmR ls0 a b)), .int (bI true), .ref q, .int 0, .long (cpS ls0 a b 16)])), (q, .inl (G.2.1 1, 24, .inr (.inl (fun _ => 0))))] H ∧ va_D A [(o, .inr (1, [.null, .null, .int (nI (vrN a ||| vrN b)), .int (nI (cmR ls0 a b)), .int (bI true), .ref q, .int 0, .long (cpS ls0 a b 16)])), (q, .inl (G.2.1 1, 24, .inr (.inl (fun _ => 0))))]) A) 1 24 A := by
  refine mn_of (by decide) (Nat.le_of_ble_eq_true rfl) ?_
  intro p e s m below meth c ls hx hb hr hk hml hown hnm hK hT h0 hl
  have hl : lv_has ls 9 [(0, .ref o), (1, .int (bI ls0)), (2, .int (nI a)), (3, .int (nI b))] := hl
  obtain ⟨hP, hA⟩ := h0
  have hS : va_S A s.heap s.heap [] := va_S.rf
  refine lv_aload_n hx hb d_Compare_init_0 rfl (lv_at hl 0 rfl) ?_
  refine lv_null hx hb d_Compare_init_1 ?_
  refine lv_null hx hb d_Compare_init_2 ?_
  refine lv_iload_n hx hb d_Compare_init_3 rfl (lv_at hl 2 rfl) ?_
  refine mm_si (mm_runSN hK ⟨hx, hb, hml, hown⟩ lk_Compare_1 (c_Mon_variables l G a (by omega)) ⟨rfl, rfl, by decide, by decide⟩ trivial rfl hl.1 rfl (Nat.le_of_ble_eq_true rfl) ⟨by decide, by decide⟩ d_Compare_init_4) (fun r4 e4 => ?_)
  subst e4
  refine lv_iload_n hx hb d_Compare_init_7 rfl (lv_at hl 3 rfl) ?_
  refine mm_si (mm_runSN hK ⟨hx, hb, hml, hown⟩ lk_Compare_1 (c_Mon_variables l G b (by omega)) ⟨rfl, rfl, by decide, by decide⟩ trivial rfl hl.1 rfl (Nat.le_of_ble_eq_true rfl) ⟨by decide, by decide⟩ d_Compare_init_8) (fun r8 e8 => ?_)
  subst e8
  refine lv_ior hx hb d_Compare_init_11 ?_
  refine mm_ti (y := nI (vrN a ||| vrN b)) (or8 _ vr8 _ vr8) ?_
  refine mm_qv (mm_runI hK ⟨hx, hb, hml, hown⟩ lk_Compare_7 (c_Formula_initA l G o 1 (by decide) [.long 0] (nI (vrN a ||| vrN b))  hD) ⟨rfl, rfl, by decide, by decide⟩ ⟨hP, (fun q h => hA q (Nat.le_trans hS.1 h))⟩ rfl hl.1 rfl (Nat.le_of_ble_eq_true rfl) ⟨by decide, by decide⟩ d_Compare_init_12) hS (fun q h => h) (fun H locs e12 hz1 hk1 hS => ?_)
  obtain ⟨q12, hP, hD⟩ := e12
  have hP : va_P G.1 cls_all [(o, .inr (1, [.null, .null, .int (nI (vrN a ||| vrN b)), .int 0, .int (bI true), .ref q12, .int 0, .long 0])), (q12, .inl (G.2.1 1, 24, .inr (.inl (fun _ => 0))))] H := hP
  have hD : va_D A [(o, .inr (1, [.null, .null, .int (nI (vrN a ||| vrN b)), .int 0, .int (bI true), .ref q12, .int 0, .long 0])), (q12, .inl (G.2.1 1, 24, .inr (.inl (fun _ => 0))))] := hD
  refine W.widen (k := 1) (n := 24) (by decide) (by decide) ?_
  refine lv_lconst (v := 0) hx hb d_Compare_init_15 (by decide) ?_
  refine lv_lstore (lv' := [(4, .long 0), (0, .ref o), (1, .int (bI ls0)), (2, .int (nI a)), (3, .int (nI b))]) hx hb d_Compare_init_16 hl (by decide) rfl (fun ls hl => ?_)
  refine lv_iconst hx hb d_Compare_init_18 ci_0 ?_
  refine lv_istore (lv' := [(6, .int (nI 0)), (4, .long 0), (0, .ref o), (1, .int (bI ls0)), (2, .int (nI a)), (3, .int (nI b))]) hx hb d_Compare_init_19 hl (by decide) rfl (fun ls hl => ?_)
  refine mm_loop (σ := (Nat) × (Int64)) (fun x ls H locs => match x with | (k, z9) => lv_has ls 9 [(0, .ref o), (1, .int (bI ls0)), (2, .int (nI a)), (3, .int (nI b)), (4, .long z9), (6, .int (nI k))] ∧ va_P G.1 cls_all [(o, .inr (1, [.null, .null, .int (nI (vrN a ||| vrN b)), .int 0, .int (bI true), .ref q12, .int 0, .long 0])), (q12, .inl (G.2.1 1, 24, .inr (.inl (fun _ => 0))))] H ∧ va_D A [(o, .inr (1, [.null, .null, .int (nI (vrN a ||| vrN b)), .int 0, .int (bI true), .ref q12, .int 0, .long 0])), (q12, .inl (G.2.1 1, 24, .inr (.inl (fun _ => 0))))] ∧ va_S A s.heap H locs ∧ (k ≤ 16) ∧ (z9 = cpS ls0 a b k)) (fun x => match x with | (k, z9) => 16 - k) ?_ (0, 0) _ _ _ ⟨(lv_sub hl [2, 3, 4, 5, 1, 0] rfl), hP, hD, hS, (by omega), rfl⟩
  rintro ⟨k, z9⟩ ls H locs ⟨hl, hP, hD, hS, hk9, hz⟩ ih21
  refine lv_iload hx hb d_Compare_init_21 (lv_at hl 5 rfl) ?_
  refine lv_bipush (v := nI 16) hx hb d_Compare_init_23 (by decide) ?_
  refine lv_icmp_ge hx hb d_Compare_init_25 (tgt := 85) (by decide) (fun c25 => ?_) (fun c25 => ?_)
  · have c25 : k ≥ 16 := nb_get (by omega) (by omega) c25
    refine lv_aload_n hx hb d_Compare_init_85 rfl (lv_at hl 0 rfl) ?_
    refine lv_lload hx hb d_Compare_init_86 (lv_at hl 4 rfl) ?_
    refine mm_putF (v := .long z9) hK hx hb hown hnm lp_Compare_17 hP hD hS 0 rfl rfl rfl (Nat.le_of_ble_eq_true rfl) d_Compare_init_88 (fun H locs hP hD hS => ?_)
    have hP : va_P G.1 cls_all [(o, .inr (1, [.null, .null, .int (nI (vrN a ||| vrN b)), .int 0, .int (bI true), .ref q12, .int 0, .long z9])), (q12, .inl (G.2.1 1, 24, .inr (.inl (fun _ => 0))))] H := hP
    have hD : va_D A [(o, .inr (1, [.null, .null, .int (nI (vrN a ||| vrN b)), .int 0, .int (bI true), .ref q12, .int 0, .long z9])), (q12, .inl (G.2.1 1, 24, .inr (.inl (fun _ => 0))))] := hD
    refine lv_iload_n hx hb d_Compare_init_91 rfl (lv_at hl 2 rfl) ?_
    refine lv_iconst hx hb d_Compare_init_92 ci_3 ?_
    refine lv_icmp_ge hx hb d_Compare_init_93 (tgt := 100) (by decide) (fun c93 => ?_) (fun c93 => ?_)
    · have c93 : a ≥ 3 := nb_get (by omega) (by omega) c93
      refine lv_iconst hx hb d_Compare_init_100 ci_0 ?_
      refine lv_iload_n hx hb d_Compare_init_101 rfl (lv_at hl 3 rfl) ?_
      refine lv_iconst hx hb d_Compare_init_102 ci_3 ?_
      refine lv_icmp_ge hx hb d_Compare_init_103 (tgt := 110) (by decide) (fun c103 => ?_) (fun c103 => ?_)
      · have c103 : b ≥ 3 := nb_get (by omega) (by omega) c103
        refine lv_iconst hx hb d_Compare_init_110 ci_0 ?_
        refine lv_icmp_eq hx hb d_Compare_init_111 (tgt := 118) (by decide) (fun c111 => ?_) (fun h9 => absurd h9 (by decide))
        have c111 : 0 = 0 := nb_eqt (by omega) (by omega) c111
        refine lv_iconst hx hb d_Compare_init_118 ci_0 ?_
        refine mm_ti (y := bI false) (by decide) ?_
        refine lv_istore (lv' := [(6, .int (bI false)), (0, .ref o), (1, .int (bI ls0)), (2, .int (nI a)), (3, .int (nI b)), (4, .long z9)]) hx hb d_Compare_init_119 hl (by decide) rfl (fun ls hl => ?_)
        refine lv_aload_n hx hb d_Compare_init_121 rfl (lv_at hl 1 rfl) ?_
        refine lv_iload_n hx hb d_Compare_init_122 rfl (lv_at hl 2 rfl) ?_
        refine mm_ifneB hx hb d_Compare_init_123 (tgt := 138) (by decide) (fun c123 => ?_) (fun c123 => ?_)
        · refine lv_iconst hx hb d_Compare_init_138 ci_0 ?_
          refine mm_put (v := .int (nI 0)) hK hx hb hown lp_Compare_27 hP hD hS 0 rfl rfl rfl (Nat.le_of_ble_eq_true rfl) d_Compare_init_139 (fun H locs hP hD hS => ?_)
          have hP : va_P G.1 cls_all [(o, .inr (1, [.null, .null, .int (nI (vrN a ||| vrN b)), .int (nI 0), .int (bI true), .ref q12, .int 0, .long z9])), (q12, .inl (G.2.1 1, 24, .inr (.inl (fun _ => 0))))] H := hP
          have hD : va_D A [(o, .inr (1, [.null, .null, .int (nI (vrN a ||| vrN b)), .int (nI 0), .int (bI true), .ref q12, .int 0, .long z9])), (q12, .inl (G.2.1 1, 24, .inr (.inl (fun _ => 0))))] := hD
          exact mm_vrQ hx hb hr hk hS d_Compare_init_142 ⟨_, by rw [show cmR ls0 a b = 0 from if_neg (by intro h; first | omega | exact absurd (c123.symm.trans h.1) (by decide)), ← show z9 = cpS ls0 a b 16 by rw [hz, show k = 16 by omega]]; exact hP, by rw [show cmR ls0 a b = 0 from if_neg (by intro h; first | omega | exact absurd (c123.symm.trans h.1) (by decide)), ← show z9 = cpS ls0 a b 16 by rw [hz, show k = 16 by omega]]; exact hD⟩
        · refine lv_iload hx hb d_Compare_init_126 (lv_at hl 0 rfl) ?_
          refine mm_ifeqB hx hb d_Compare_init_128 (tgt := 138) (by decide) (fun c128 => ?_) (fun h9 => absurd h9 (fun h => by cases h))
          refine lv_iconst hx hb d_Compare_init_138 ci_0 ?_
          refine mm_put (v := .int (nI 0)) hK hx hb hown lp_Compare_27 hP hD hS 0 rfl rfl rfl (Nat.le_of_ble_eq_true rfl) d_Compare_init_139 (fun H locs hP hD hS => ?_)
          have hP : va_P G.1 cls_all [(o, .inr (1, [.null, .null, .int (nI (vrN a ||| vrN b)), .int (nI 0), .int (bI true), .ref q12, .int 0, .long z9])), (q12, .inl (G.2.1 1, 24, .inr (.inl (fun _ => 0))))] H := hP
          have hD : va_D A [(o, .inr (1, [.null, .null, .int (nI (vrN a ||| vrN b)), .int (nI 0), .int (bI true), .ref q12, .int 0, .long z9])), (q12, .inl (G.2.1 1, 24, .inr (.inl (fun _ => 0))))] := hD
          exact mm_vrQ hx hb hr hk hS d_Compare_init_142 ⟨_, by rw [show cmR ls0 a b = 0 from if_neg (by intro h; first | omega | exact absurd (c123.symm.trans h.1) (by decide)), ← show z9 = cpS ls0 a b 16 by rw [hz, show k = 16 by omega]]; exact hP, by rw [show cmR ls0 a b = 0 from if_neg (by intro h; first | omega | exact absurd (c123.symm.trans h.1) (by decide)), ← show z9 = cpS ls0 a b 16 by rw [hz, show k = 16 by omega]]; exact hD⟩
      · have c103 : b < 3 := nb_gef (by omega) (by omega) c103
        refine lv_iconst hx hb d_Compare_init_106 ci_1 ?_
        refine lv_goto hx hb d_Compare_init_107 (tgt := 111) (by decide) ?_
        refine lv_icmp_eq hx hb d_Compare_init_111 (tgt := 118) (by decide) (fun h9 => absurd h9 (by decide)) (fun c111 => ?_)
        have c111 : 0 ≠ 1 := nb_eqf (by omega) (by omega) c111
        refine lv_iconst hx hb d_Compare_init_114 ci_1 ?_
        refine lv_goto hx hb d_Compare_init_115 (tgt := 119) (by decide) ?_
        refine mm_ti (y := bI true) (by decide) ?_
        refine lv_istore (lv' := [(6, .int (bI true)), (0, .ref o), (1, .int (bI ls0)), (2, .int (nI a)), (3, .int (nI b)), (4, .long z9)]) hx hb d_Compare_init_119 hl (by decide) rfl (fun ls hl => ?_)
        refine lv_aload_n hx hb d_Compare_init_121 rfl (lv_at hl 1 rfl) ?_
        refine lv_iload_n hx hb d_Compare_init_122 rfl (lv_at hl 2 rfl) ?_
        refine mm_ifneB hx hb d_Compare_init_123 (tgt := 138) (by decide) (fun c123 => ?_) (fun c123 => ?_)
        · refine lv_iconst hx hb d_Compare_init_138 ci_0 ?_
          refine mm_put (v := .int (nI 0)) hK hx hb hown lp_Compare_27 hP hD hS 0 rfl rfl rfl (Nat.le_of_ble_eq_true rfl) d_Compare_init_139 (fun H locs hP hD hS => ?_)
          have hP : va_P G.1 cls_all [(o, .inr (1, [.null, .null, .int (nI (vrN a ||| vrN b)), .int (nI 0), .int (bI true), .ref q12, .int 0, .long z9])), (q12, .inl (G.2.1 1, 24, .inr (.inl (fun _ => 0))))] H := hP
          have hD : va_D A [(o, .inr (1, [.null, .null, .int (nI (vrN a ||| vrN b)), .int (nI 0), .int (bI true), .ref q12, .int 0, .long z9])), (q12, .inl (G.2.1 1, 24, .inr (.inl (fun _ => 0))))] := hD
          exact mm_vrQ hx hb hr hk hS d_Compare_init_142 ⟨_, by rw [show cmR ls0 a b = 0 from if_neg (by intro h; first | omega | exact absurd (c123.symm.trans h.1) (by decide)), ← show z9 = cpS ls0 a b 16 by rw [hz, show k = 16 by omega]]; exact hP, by rw [show cmR ls0 a b = 0 from if_neg (by intro h; first | omega | exact absurd (c123.symm.trans h.1) (by decide)), ← show z9 = cpS ls0 a b 16 by rw [hz, show k = 16 by omega]]; exact hD⟩
        · refine lv_iload hx hb d_Compare_init_126 (lv_at hl 0 rfl) ?_
          refine mm_ifeqB hx hb d_Compare_init_128 (tgt := 138) (by decide) (fun h9 => absurd h9 (fun h => by cases h)) (fun c128 => ?_)
          refine lv_aload_n hx hb d_Compare_init_131 rfl (lv_at hl 1 rfl) ?_
          refine mm_get (v := .int (nI (vrN a ||| vrN b))) hK hx hb hown lg_Compare_23 hP 0 rfl rfl d_Compare_init_132 ?_
          refine lv_goto hx hb d_Compare_init_135 (tgt := 139) (by decide) ?_
          refine mm_put (v := .int (nI (vrN a ||| vrN b))) hK hx hb hown lp_Compare_27 hP hD hS 0 rfl rfl rfl (Nat.le_of_ble_eq_true rfl) d_Compare_init_139 (fun H locs hP hD hS => ?_)
          have hP : va_P G.1 cls_all [(o, .inr (1, [.null, .null, .int (nI (vrN a ||| vrN b)), .int (nI (vrN a ||| vrN b)), .int (bI true), .ref q12, .int 0, .long z9])), (q12, .inl (G.2.1 1, 24, .inr (.inl (fun _ => 0))))] H := hP
          have hD : va_D A [(o, .inr (1, [.null, .null, .int (nI (vrN a ||| vrN b)), .int (nI (vrN a ||| vrN b)), .int (bI true), .ref q12, .int 0, .long z9])), (q12, .inl (G.2.1 1, 24, .inr (.inl (fun _ => 0))))] := hD
          exact mm_vrQ hx hb hr hk hS d_Compare_init_142 ⟨_, by rw [show cmR ls0 a b = vrN a ||| vrN b from if_pos ⟨c123, by omega⟩, ← show z9 = cpS ls0 a b 16 by rw [hz, show k = 16 by omega]]; exact hP, by rw [show cmR ls0 a b = vrN a ||| vrN b from if_pos ⟨c123, by omega⟩, ← show z9 = cpS ls0 a b 16 by rw [hz, show k = 16 by omega]]; exact hD⟩
    · have c93 : a < 3 := nb_gef (by omega) (by omega) c93
      refine lv_iconst hx hb d_Compare_init_96 ci_1 ?_
      refine lv_goto hx hb d_Compare_init_97 (tgt := 101) (by decide) ?_
      refine lv_iload_n hx hb d_Compare_init_101 rfl (lv_at hl 3 rfl) ?_
      refine lv_iconst hx hb d_Compare_init_102 ci_3 ?_
      refine lv_icmp_ge hx hb d_Compare_init_103 (tgt := 110) (by decide) (fun c103 => ?_) (fun c103 => ?_)
      · have c103 : b ≥ 3 := nb_get (by omega) (by omega) c103
        refine lv_iconst hx hb d_Compare_init_110 ci_0 ?_
        refine lv_icmp_eq hx hb d_Compare_init_111 (tgt := 118) (by decide) (fun h9 => absurd h9 (by decide)) (fun c111 => ?_)
        have c111 : 1 ≠ 0 := nb_eqf (by omega) (by omega) c111
        refine lv_iconst hx hb d_Compare_init_114 ci_1 ?_
        refine lv_goto hx hb d_Compare_init_115 (tgt := 119) (by decide) ?_
        refine mm_ti (y := bI true) (by decide) ?_
        refine lv_istore (lv' := [(6, .int (bI true)), (0, .ref o), (1, .int (bI ls0)), (2, .int (nI a)), (3, .int (nI b)), (4, .long z9)]) hx hb d_Compare_init_119 hl (by decide) rfl (fun ls hl => ?_)
        refine lv_aload_n hx hb d_Compare_init_121 rfl (lv_at hl 1 rfl) ?_
        refine lv_iload_n hx hb d_Compare_init_122 rfl (lv_at hl 2 rfl) ?_
        refine mm_ifneB hx hb d_Compare_init_123 (tgt := 138) (by decide) (fun c123 => ?_) (fun c123 => ?_)
        · refine lv_iconst hx hb d_Compare_init_138 ci_0 ?_
          refine mm_put (v := .int (nI 0)) hK hx hb hown lp_Compare_27 hP hD hS 0 rfl rfl rfl (Nat.le_of_ble_eq_true rfl) d_Compare_init_139 (fun H locs hP hD hS => ?_)
          have hP : va_P G.1 cls_all [(o, .inr (1, [.null, .null, .int (nI (vrN a ||| vrN b)), .int (nI 0), .int (bI true), .ref q12, .int 0, .long z9])), (q12, .inl (G.2.1 1, 24, .inr (.inl (fun _ => 0))))] H := hP
          have hD : va_D A [(o, .inr (1, [.null, .null, .int (nI (vrN a ||| vrN b)), .int (nI 0), .int (bI true), .ref q12, .int 0, .long z9])), (q12, .inl (G.2.1 1, 24, .inr (.inl (fun _ => 0))))] := hD
          exact mm_vrQ hx hb hr hk hS d_Compare_init_142 ⟨_, by rw [show cmR ls0 a b = 0 from if_neg (by intro h; first | omega | exact absurd (c123.symm.trans h.1) (by decide)), ← show z9 = cpS ls0 a b 16 by rw [hz, show k = 16 by omega]]; exact hP, by rw [show cmR ls0 a b = 0 from if_neg (by intro h; first | omega | exact absurd (c123.symm.trans h.1) (by decide)), ← show z9 = cpS ls0 a b 16 by rw [hz, show k = 16 by omega]]; exact hD⟩
        · refine lv_iload hx hb d_Compare_init_126 (lv_at hl 0 rfl) ?_
          refine mm_ifeqB hx hb d_Compare_init_128 (tgt := 138) (by decide) (fun h9 => absurd h9 (fun h => by cases h)) (fun c128 => ?_)
          refine lv_aload_n hx hb d_Compare_init_131 rfl (lv_at hl 1 rfl) ?_
          refine mm_get (v := .int (nI (vrN a ||| vrN b))) hK hx hb hown lg_Compare_23 hP 0 rfl rfl d_Compare_init_132 ?_
          refine lv_goto hx hb d_Compare_init_135 (tgt := 139) (by decide) ?_
          refine mm_put (v := .int (nI (vrN a ||| vrN b))) hK hx hb hown lp_Compare_27 hP hD hS 0 rfl rfl rfl (Nat.le_of_ble_eq_true rfl) d_Compare_init_139 (fun H locs hP hD hS => ?_)
          have hP : va_P G.1 cls_all [(o, .inr (1, [.null, .null, .int (nI (vrN a ||| vrN b)), .int (nI (vrN a ||| vrN b)), .int (bI true), .ref q12, .int 0, .long z9])), (q12, .inl (G.2.1 1, 24, .inr (.inl (fun _ => 0))))] H := hP
          have hD : va_D A [(o, .inr (1, [.null, .null, .int (nI (vrN a ||| vrN b)), .int (nI (vrN a ||| vrN b)), .int (bI true), .ref q12, .int 0, .long z9])), (q12, .inl (G.2.1 1, 24, .inr (.inl (fun _ => 0))))] := hD
          exact mm_vrQ hx hb hr hk hS d_Compare_init_142 ⟨_, by rw [show cmR ls0 a b = vrN a ||| vrN b from if_pos ⟨c123, by omega⟩, ← show z9 = cpS ls0 a b 16 by rw [hz, show k = 16 by omega]]; exact hP, by rw [show cmR ls0 a b = vrN a ||| vrN b from if_pos ⟨c123, by omega⟩, ← show z9 = cpS ls0 a b 16 by rw [hz, show k = 16 by omega]]; exact hD⟩
      · have c103 : b < 3 := nb_gef (by omega) (by omega) c103
        refine lv_iconst hx hb d_Compare_init_106 ci_1 ?_
        refine lv_goto hx hb d_Compare_init_107 (tgt := 111) (by decide) ?_
        refine lv_icmp_eq hx hb d_Compare_init_111 (tgt := 118) (by decide) (fun c111 => ?_) (fun h9 => absurd h9 (by decide))
        have c111 : 1 = 1 := nb_eqt (by omega) (by omega) c111
        refine lv_iconst hx hb d_Compare_init_118 ci_0 ?_
        refine mm_ti (y := bI false) (by decide) ?_
        refine lv_istore (lv' := [(6, .int (bI false)), (0, .ref o), (1, .int (bI ls0)), (2, .int (nI a)), (3, .int (nI b)), (4, .long z9)]) hx hb d_Compare_init_119 hl (by decide) rfl (fun ls hl => ?_)
        refine lv_aload_n hx hb d_Compare_init_121 rfl (lv_at hl 1 rfl) ?_
        refine lv_iload_n hx hb d_Compare_init_122 rfl (lv_at hl 2 rfl) ?_
        refine mm_ifneB hx hb d_Compare_init_123 (tgt := 138) (by decide) (fun c123 => ?_) (fun c123 => ?_)
        · refine lv_iconst hx hb d_Compare_init_138 ci_0 ?_
          refine mm_put (v := .int (nI 0)) hK hx hb hown lp_Compare_27 hP hD hS 0 rfl rfl rfl (Nat.le_of_ble_eq_true rfl) d_Compare_init_139 (fun H locs hP hD hS => ?_)
          have hP : va_P G.1 cls_all [(o, .inr (1, [.null, .null, .int (nI (vrN a ||| vrN b)), .int (nI 0), .int (bI true), .ref q12, .int 0, .long z9])), (q12, .inl (G.2.1 1, 24, .inr (.inl (fun _ => 0))))] H := hP
          have hD : va_D A [(o, .inr (1, [.null, .null, .int (nI (vrN a ||| vrN b)), .int (nI 0), .int (bI true), .ref q12, .int 0, .long z9])), (q12, .inl (G.2.1 1, 24, .inr (.inl (fun _ => 0))))] := hD
          exact mm_vrQ hx hb hr hk hS d_Compare_init_142 ⟨_, by rw [show cmR ls0 a b = 0 from if_neg (by intro h; first | omega | exact absurd (c123.symm.trans h.1) (by decide)), ← show z9 = cpS ls0 a b 16 by rw [hz, show k = 16 by omega]]; exact hP, by rw [show cmR ls0 a b = 0 from if_neg (by intro h; first | omega | exact absurd (c123.symm.trans h.1) (by decide)), ← show z9 = cpS ls0 a b 16 by rw [hz, show k = 16 by omega]]; exact hD⟩
        · refine lv_iload hx hb d_Compare_init_126 (lv_at hl 0 rfl) ?_
          refine mm_ifeqB hx hb d_Compare_init_128 (tgt := 138) (by decide) (fun c128 => ?_) (fun h9 => absurd h9 (fun h => by cases h))
          refine lv_iconst hx hb d_Compare_init_138 ci_0 ?_
          refine mm_put (v := .int (nI 0)) hK hx hb hown lp_Compare_27 hP hD hS 0 rfl rfl rfl (Nat.le_of_ble_eq_true rfl) d_Compare_init_139 (fun H locs hP hD hS => ?_)
          have hP : va_P G.1 cls_all [(o, .inr (1, [.null, .null, .int (nI (vrN a ||| vrN b)), .int (nI 0), .int (bI true), .ref q12, .int 0, .long z9])), (q12, .inl (G.2.1 1, 24, .inr (.inl (fun _ => 0))))] H := hP
          have hD : va_D A [(o, .inr (1, [.null, .null, .int (nI (vrN a ||| vrN b)), .int (nI 0), .int (bI true), .ref q12, .int 0, .long z9])), (q12, .inl (G.2.1 1, 24, .inr (.inl (fun _ => 0))))] := hD
          exact mm_vrQ hx hb hr hk hS d_Compare_init_142 ⟨_, by rw [show cmR ls0 a b = 0 from if_neg (by intro h; first | omega | exact absurd (c123.symm.trans h.1) (by decide)), ← show z9 = cpS ls0 a b 16 by rw [hz, show k = 16 by omega]]; exact hP, by rw [show cmR ls0 a b = 0 from if_neg (by intro h; first | omega | exact absurd (c123.symm.trans h.1) (by decide)), ← show z9 = cpS ls0 a b 16 by rw [hz, show k = 16 by omega]]; exact hD⟩
  · have c25 : k < 16 := nb_gef (by omega) (by omega) c25
    refine lv_iload hx hb d_Compare_init_28 (lv_at hl 5 rfl) ?_
    refine lv_iconst hx hb d_Compare_init_30 ci_2 ?_
    refine lv_ishr hx hb d_Compare_init_31 ?_
    refine mm_ti (y := nI (k / 4)) (q4a _ (by omega)) ?_
    refine lv_istore (lv' := [(7, .int (nI (k / 4))), (0, .ref o), (1, .int (bI ls0)), (2, .int (nI a)), (3, .int (nI b)), (4, .long z9), (6, .int (nI k))]) hx hb d_Compare_init_32 hl (by decide) rfl (fun ls hl => ?_)
    refine lv_iload hx hb d_Compare_init_34 (lv_at hl 6 rfl) ?_
    refine lv_iconst hx hb d_Compare_init_36 ci_3 ?_
    refine lv_iand hx hb d_Compare_init_37 ?_
    refine mm_ti (y := nI (k % 4)) (q4b _ (by omega)) ?_
    refine lv_istore (lv' := [(8, .int (nI (k % 4))), (7, .int (nI (k / 4))), (0, .ref o), (1, .int (bI ls0)), (2, .int (nI a)), (3, .int (nI b)), (4, .long z9), (6, .int (nI k))]) hx hb d_Compare_init_38 hl (by decide) rfl (fun ls hl => ?_)
    refine lv_iload_n hx hb d_Compare_init_40 rfl (lv_at hl 3 rfl) ?_
    refine mm_ifeqB hx hb d_Compare_init_41 (tgt := 54) (by decide) (fun c41 => ?_) (fun c41 => ?_)
    · refine lv_iload hx hb d_Compare_init_54 (lv_at hl 1 rfl) ?_
      refine lv_iload hx hb d_Compare_init_56 (lv_at hl 0 rfl) ?_
      refine lv_icmp_ne hx hb d_Compare_init_58 (tgt := 79) (by decide) (fun c58 => ?_) (fun c58 => ?_)
      · have c58 : k / 4 ≠ k % 4 := nb_net (by omega) (by omega) c58
        refine lv_iinc (k := 7) (v := nI (k + 1)) (lv' := [(6, .int (nI (k + 1))), (8, .int (nI (k % 4))), (7, .int (nI (k / 4))), (0, .ref o), (1, .int (bI ls0)), (2, .int (nI a)), (3, .int (nI b)), (4, .long z9)]) hx hb d_Compare_init_79 hl rfl (inc1 _) (by decide) rfl (fun ls hl => ?_)
        refine lv_goto hx hb d_Compare_init_82 (tgt := 21) (by decide) ?_
        exact ih21 ((k + 1), z9) _ _ _ ⟨(lv_sub hl [3, 4, 5, 6, 7, 0] rfl), hP, hD, hS, (by omega), (by rw [cpS, if_neg (by first | exact cp_tf c41 (by omega) | exact cp_ff c41 (by omega))]; exact hz)⟩ (by (try dsimp only); omega)
      · have c58 : k / 4 = k % 4 := nb_nef (by omega) (by omega) c58
        refine lv_lload hx hb d_Compare_init_61 (lv_at hl 6 rfl) ?_
        refine lv_iload_n hx hb d_Compare_init_63 rfl (lv_at hl 4 rfl) ?_
        refine lv_iload hx hb d_Compare_init_64 (lv_at hl 1 rfl) ?_
        refine mm_sl (mn_runSN hK hT hS (fun q h => h) ⟨hx, hb, hml, hown⟩ lk_Compare_13 (c_Mon_where l G Z a (k / 4) (by omega) (by omega) (by omega)) ⟨rfl, rfl, by decide, by decide⟩ trivial rfl hl.1 rfl (Nat.le_of_ble_eq_true rfl) ⟨by decide, by decide⟩ d_Compare_init_66) (fun r66 e66 => ?_)
        subst e66
        refine lv_iload_n hx hb d_Compare_init_69 rfl (lv_at hl 5 rfl) ?_
        refine lv_iload hx hb d_Compare_init_70 (lv_at hl 0 rfl) ?_
        refine mm_sl (mn_runSN hK hT hS (fun q h => h) ⟨hx, hb, hml, hown⟩ lk_Compare_13 (c_Mon_where l G Z b (k % 4) (by omega) (by omega) (by omega)) ⟨rfl, rfl, by decide, by decide⟩ trivial rfl hl.1 rfl (Nat.le_of_ble_eq_true rfl) ⟨by decide, by decide⟩ d_Compare_init_72) (fun r72 e72 => ?_)
        subst e72
        refine lv_land hx hb d_Compare_init_75 ?_
        refine lv_lor hx hb d_Compare_init_76 ?_
        refine lv_lstore (lv' := [(4, .long (z9 ||| ((whL a (k / 4)) &&& (whL b (k % 4))))), (8, .int (nI (k % 4))), (7, .int (nI (k / 4))), (0, .ref o), (1, .int (bI ls0)), (2, .int (nI a)), (3, .int (nI b)), (6, .int (nI k))]) hx hb d_Compare_init_77 hl (by decide) rfl (fun ls hl => ?_)
        refine lv_iinc (k := 7) (v := nI (k + 1)) (lv' := [(6, .int (nI (k + 1))), (4, .long (z9 ||| ((whL a (k / 4)) &&& (whL b (k % 4))))), (8, .int (nI (k % 4))), (7, .int (nI (k / 4))), (0, .ref o), (1, .int (bI ls0)), (2, .int (nI a)), (3, .int (nI b))]) hx hb d_Compare_init_79 hl rfl (inc1 _) (by decide) rfl (fun ls hl => ?_)
        refine lv_goto hx hb d_Compare_init_82 (tgt := 21) (by decide) ?_
        exact ih21 ((k + 1), (z9 ||| ((whL a (k / 4)) &&& (whL b (k % 4))))) _ _ _ ⟨(lv_sub hl [4, 5, 6, 7, 1, 0] rfl), hP, hD, hS, (by omega), (by rw [cpS, if_pos (by first | exact cp_tt c41 (by omega) | exact cp_ft c41 (by omega)), hz])⟩ (by (try dsimp only); omega)
    · refine lv_iload hx hb d_Compare_init_44 (lv_at hl 1 rfl) ?_
      refine lv_iload hx hb d_Compare_init_46 (lv_at hl 0 rfl) ?_
      refine lv_icmp_ge hx hb d_Compare_init_48 (tgt := 79) (by decide) (fun c48 => ?_) (fun c48 => ?_)
      · have c48 : k / 4 ≥ k % 4 := nb_get (by omega) (by omega) c48
        refine lv_iinc (k := 7) (v := nI (k + 1)) (lv' := [(6, .int (nI (k + 1))), (8, .int (nI (k % 4))), (7, .int (nI (k / 4))), (0, .ref o), (1, .int (bI ls0)), (2, .int (nI a)), (3, .int (nI b)), (4, .long z9)]) hx hb d_Compare_init_79 hl rfl (inc1 _) (by decide) rfl (fun ls hl => ?_)
        refine lv_goto hx hb d_Compare_init_82 (tgt := 21) (by decide) ?_
        exact ih21 ((k + 1), z9) _ _ _ ⟨(lv_sub hl [3, 4, 5, 6, 7, 0] rfl), hP, hD, hS, (by omega), (by rw [cpS, if_neg (by first | exact cp_tf c41 (by omega) | exact cp_ff c41 (by omega))]; exact hz)⟩ (by (try dsimp only); omega)
      · have c48 : k / 4 < k % 4 := nb_gef (by omega) (by omega) c48
        refine lv_goto hx hb d_Compare_init_51 (tgt := 61) (by decide) ?_
        refine lv_lload hx hb d_Compare_init_61 (lv_at hl 6 rfl) ?_
        refine lv_iload_n hx hb d_Compare_init_63 rfl (lv_at hl 4 rfl) ?_
        refine lv_iload hx hb d_Compare_init_64 (lv_at hl 1 rfl) ?_
        refine mm_sl (mn_runSN hK hT hS (fun q h => h) ⟨hx, hb, hml, hown⟩ lk_Compare_13 (c_Mon_where l G Z a (k / 4) (by omega) (by omega) (by omega)) ⟨rfl, rfl, by decide, by decide⟩ trivial rfl hl.1 rfl (Nat.le_of_ble_eq_true rfl) ⟨by decide, by decide⟩ d_Compare_init_66) (fun r66 e66 => ?_)
        subst e66
        refine lv_iload_n hx hb d_Compare_init_69 rfl (lv_at hl 5 rfl) ?_
        refine lv_iload hx hb d_Compare_init_70 (lv_at hl 0 rfl) ?_
        refine mm_sl (mn_runSN hK hT hS (fun q h => h) ⟨hx, hb, hml, hown⟩ lk_Compare_13 (c_Mon_where l G Z b (k % 4) (by omega) (by omega) (by omega)) ⟨rfl, rfl, by decide, by decide⟩ trivial rfl hl.1 rfl (Nat.le_of_ble_eq_true rfl) ⟨by decide, by decide⟩ d_Compare_init_72) (fun r72 e72 => ?_)
        subst e72
        refine lv_land hx hb d_Compare_init_75 ?_
        refine lv_lor hx hb d_Compare_init_76 ?_
        refine lv_lstore (lv' := [(4, .long (z9 ||| ((whL a (k / 4)) &&& (whL b (k % 4))))), (8, .int (nI (k % 4))), (7, .int (nI (k / 4))), (0, .ref o), (1, .int (bI ls0)), (2, .int (nI a)), (3, .int (nI b)), (6, .int (nI k))]) hx hb d_Compare_init_77 hl (by decide) rfl (fun ls hl => ?_)
        refine lv_iinc (k := 7) (v := nI (k + 1)) (lv' := [(6, .int (nI (k + 1))), (4, .long (z9 ||| ((whL a (k / 4)) &&& (whL b (k % 4))))), (8, .int (nI (k % 4))), (7, .int (nI (k / 4))), (0, .ref o), (1, .int (bI ls0)), (2, .int (nI a)), (3, .int (nI b))]) hx hb d_Compare_init_79 hl rfl (inc1 _) (by decide) rfl (fun ls hl => ?_)
        refine lv_goto hx hb d_Compare_init_82 (tgt := 21) (by decide) ?_
        exact ih21 ((k + 1), (z9 ||| ((whL a (k / 4)) &&& (whL b (k % 4))))) _ _ _ ⟨(lv_sub hl [4, 5, 6, 7, 1, 0] rfl), hP, hD, hS, (by omega), (by rw [cpS, if_pos (by first | exact cp_tt c41 (by omega) | exact cp_ft c41 (by omega)), hz])⟩ (by (try dsimp only); omega)
set_option maxHeartbeats 4000000 in
set_option maxRecDepth 100000 in
theorem c_Not_init (l : Launch) (G : mm_G) {A : Nat → Prop} (o : Nat)  (ln cl : Nat) (hcl : cl < 8) (la0 la1 la5 la6 : Value) (lf lr : Nat) (lc : Bool) (lx : List Value) (hD : va_D A [(o, .inr (2, [.null, .null, .int 0, .int 0, .int 0, .null, .int 0]))]) (hRN : ∀ q ∈ ([(ln, .inr (cl, [la0, la1, .int (nI lf), .int (nI lr), .int (bI lc), la5, la6] ++ lx))] : va_W), ¬ A q.1) : Met l y_Not_init [.code y_Not_init b_Not_init 2 none] { frames := 2, cells := 1, slots := 24, locals := 35 } (mm_Pre G [.ref o, .ref ln] (fun H => va_P G.1 cls_all [(o, .inr (2, [.null, .null, .int 0, .int 0, .int 0, .null, .int 0]))] H ∧ (∀ q, H.size ≤ q → A q) ∧ va_P G.1 cls_all [(ln, .inr (cl, [la0, la1, .int (nI lf), .int (nI lr), .int (bI lc), la5, la6] ++ lx))] H)) (mm_Qv (fun H => ∃ q, va_P G.1 cls_all [(o, .inr (2, [.ref ln, .null, .int (nI lf), .int 0, .int (bI lc), .ref q, .int 0])), (q, .inl (G.2.1 1, 24, .inr (.inl (fun _ => 0))))] H ∧ va_D A [(o, .inr (2, [.ref ln, .null, .int (nI lf), .int 0, .int (bI lc), .ref q, .int 0])), (q, .inl (G.2.1 1, 24, .inr (.inl (fun _ => 0))))]) A) 1 24 A := by
  refine mm_of (by decide) (Nat.le_of_ble_eq_true rfl) ?_
  intro p e s m below meth c ls hx hb hr hk hml hown hnm hK h0 hl
  have hl : lv_has ls 2 [(0, .ref o), (1, .ref ln)] := hl
  obtain ⟨hP, hA, hR⟩ := h0
  have hS : va_S A s.heap s.heap [] := va_S.rf
  refine lv_aload_n hx hb d_Not_init_0 rfl (lv_at hl 0 rfl) ?_
  refine lv_aload_n hx hb d_Not_init_1 rfl (lv_at hl 1 rfl) ?_
  refine lv_null hx hb d_Not_init_2 ?_
  refine lv_aload_n hx hb d_Not_init_3 rfl (lv_at hl 1 rfl) ?_
  refine mm_get (v := .int (nI lf)) hK hx hb hown (lg_Not_1 cl hcl) (mm_ro hR hRN hS) 0 rfl rfl d_Not_init_4 ?_
  refine mm_qv (mm_runI hK ⟨hx, hb, hml, hown⟩ lk_Not_7 (c_Formula_initB l G o 2 (by decide) [] (nI lf) ln cl hcl la0 la1 la5 la6 lf lr lc lx hD (fun q h => hRN q (by simp only [List.mem_cons, List.not_mem_nil, or_false] at h ⊢; first | exact h | exact Or.inl h | exact Or.inr h | (rcases h with h | h <;> simp [h])))) ⟨rfl, rfl, by decide, by decide⟩ ⟨hP, (fun q h => hA q (Nat.le_trans hS.1 h)), ((mm_ro hR hRN hS).sub (ws' := [(ln, .inr (cl, [la0, la1, .int (nI lf), .int (nI lr), .int (bI lc), la5, la6] ++ lx))]) [0] rfl)⟩ rfl hl.1 rfl (Nat.le_of_ble_eq_true rfl) ⟨by decide, by decide⟩ d_Not_init_7) hS (fun q h => h) (fun H locs e7 hz1 hk1 hS => ?_)
  obtain ⟨q7, hP, hD⟩ := e7
  have hP : va_P G.1 cls_all [(o, .inr (2, [.ref ln, .null, .int (nI lf), .int 0, .int (bI lc), .ref q7, .int 0])), (q7, .inl (G.2.1 1, 24, .inr (.inl (fun _ => 0))))] H := hP
  have hD : va_D A [(o, .inr (2, [.ref ln, .null, .int (nI lf), .int 0, .int (bI lc), .ref q7, .int 0])), (q7, .inl (G.2.1 1, 24, .inr (.inl (fun _ => 0))))] := hD
  refine W.widen (k := 1) (n := 24) (by decide) (by decide) ?_
  exact mm_vrQ hx hb hr hk hS d_Not_init_10 ⟨_, hP, hD⟩
set_option maxHeartbeats 4000000 in
set_option maxRecDepth 100000 in
theorem c_Join_init (l : Launch) (G : mm_G) {A : Nat → Prop} (o : Nat) (an : Bool) (ln cl : Nat) (hcl : cl < 8) (la0 la1 la5 la6 : Value) (lf lr : Nat) (lc : Bool) (lx : List Value) (rn cr : Nat) (hcr : cr < 8) (ra0 ra1 ra5 ra6 : Value) (rf rr : Nat) (rc : Bool) (rx : List Value) (h1 : lf < 8) (h2 : rf < 8) (h3 : lr < 8) (h4 : rr < 8) (hD : va_D A [(o, .inr (3, [.null, .null, .int 0, .int 0, .int 0, .null, .int 0, .int 0]))]) (hRN : ∀ q ∈ ([(ln, .inr (cl, [la0, la1, .int (nI lf), .int (nI lr), .int (bI lc), la5, la6] ++ lx)), (rn, .inr (cr, [ra0, ra1, .int (nI rf), .int (nI rr), .int (bI rc), ra5, ra6] ++ rx))] : va_W), ¬ A q.1) : Met l y_Join_init [.code y_Join_init b_Join_init 4 none] { frames := 2, cells := 1, slots := 24, locals := 35 } (mm_Pre G [.ref o, .int (bI an), .ref ln, .ref rn] (fun H => va_P G.1 cls_all [(o, .inr (3, [.null, .null, .int 0, .int 0, .int 0, .null, .int 0, .int 0]))] H ∧ (∀ q, H.size ≤ q → A q) ∧ va_P G.1 cls_all [(ln, .inr (cl, [la0, la1, .int (nI lf), .int (nI lr), .int (bI lc), la5, la6] ++ lx)), (rn, .inr (cr, [ra0, ra1, .int (nI rf), .int (nI rr), .int (bI rc), ra5, ra6] ++ rx))] H)) (mm_Qv (fun H => ∃ q, va_P G.1 cls_all [(o, .inr (3, [.ref ln, .ref rn, .int (nI (lf ||| rf)), .int (nI (if an = true then lr ||| rr else lr &&& rr)), .int (bI (lc && rc)), .ref q, .int 0, .int (bI an)])), (q, .inl (G.2.1 1, 24, .inr (.inl (fun _ => 0))))] H ∧ va_D A [(o, .inr (3, [.ref ln, .ref rn, .int (nI (lf ||| rf)), .int (nI (if an = true then lr ||| rr else lr &&& rr)), .int (bI (lc && rc)), .ref q, .int 0, .int (bI an)])), (q, .inl (G.2.1 1, 24, .inr (.inl (fun _ => 0))))]) A) 1 24 A := by
  refine mm_of (by decide) (Nat.le_of_ble_eq_true rfl) ?_
  intro p e s m below meth c ls hx hb hr hk hml hown hnm hK h0 hl
  have hl : lv_has ls 4 [(0, .ref o), (1, .int (bI an)), (2, .ref ln), (3, .ref rn)] := hl
  obtain ⟨hP, hA, hR⟩ := h0
  have hS : va_S A s.heap s.heap [] := va_S.rf
  refine lv_aload_n hx hb d_Join_init_0 rfl (lv_at hl 0 rfl) ?_
  refine lv_aload_n hx hb d_Join_init_1 rfl (lv_at hl 2 rfl) ?_
  refine lv_aload_n hx hb d_Join_init_2 rfl (lv_at hl 3 rfl) ?_
  refine lv_aload_n hx hb d_Join_init_3 rfl (lv_at hl 2 rfl) ?_
  refine mm_get (v := .int (nI lf)) hK hx hb hown (lg_Join_1 cl hcl) (mm_ro hR hRN hS) 0 rfl rfl d_Join_init_4 ?_
  refine lv_aload_n hx hb d_Join_init_7 rfl (lv_at hl 3 rfl) ?_
  refine mm_get (v := .int (nI rf)) hK hx hb hown (lg_Join_1 cr hcr) (mm_ro hR hRN hS) 1 rfl rfl d_Join_init_8 ?_
  refine lv_ior hx hb d_Join_init_11 ?_
  refine mm_ti (y := nI (lf ||| rf)) (or8 _ h1 _ h2) ?_
  refine mm_qv (mm_runI hK ⟨hx, hb, hml, hown⟩ lk_Join_7 (c_Formula_initC l G o 3 (by decide) [.int 0] (nI (lf ||| rf)) ln cl hcl la0 la1 la5 la6 lf lr lc lx rn cr hcr ra0 ra1 ra5 ra6 rf rr rc rx hD (fun q h => hRN q (by simp only [List.mem_cons, List.not_mem_nil, or_false] at h ⊢; first | exact h | exact Or.inl h | exact Or.inr h | (rcases h with h | h <;> simp [h])))) ⟨rfl, rfl, by decide, by decide⟩ ⟨hP, (fun q h => hA q (Nat.le_trans hS.1 h)), ((mm_ro hR hRN hS).sub (ws' := [(ln, .inr (cl, [la0, la1, .int (nI lf), .int (nI lr), .int (bI lc), la5, la6] ++ lx)), (rn, .inr (cr, [ra0, ra1, .int (nI rf), .int (nI rr), .int (bI rc), ra5, ra6] ++ rx))]) [0, 1] rfl)⟩ rfl hl.1 rfl (Nat.le_of_ble_eq_true rfl) ⟨by decide, by decide⟩ d_Join_init_12) hS (fun q h => h) (fun H locs e12 hz1 hk1 hS => ?_)
  obtain ⟨q12, hP, hD⟩ := e12
  have hP : va_P G.1 cls_all [(o, .inr (3, [.ref ln, .ref rn, .int (nI (lf ||| rf)), .int 0, .int (bI (lc && rc)), .ref q12, .int 0, .int 0])), (q12, .inl (G.2.1 1, 24, .inr (.inl (fun _ => 0))))] H := hP
  have hD : va_D A [(o, .inr (3, [.ref ln, .ref rn, .int (nI (lf ||| rf)), .int 0, .int (bI (lc && rc)), .ref q12, .int 0, .int 0])), (q12, .inl (G.2.1 1, 24, .inr (.inl (fun _ => 0))))] := hD
  refine W.widen (k := 1) (n := 24) (by decide) (by decide) ?_
  refine lv_aload_n hx hb d_Join_init_15 rfl (lv_at hl 0 rfl) ?_
  refine lv_iload_n hx hb d_Join_init_16 rfl (lv_at hl 1 rfl) ?_
  refine mm_putF (v := .int (bI an)) hK hx hb hown hnm lp_Join_11 hP hD hS 0 rfl (bI_nar _) (bI_fit _) (Nat.le_of_ble_eq_true rfl) d_Join_init_17 (fun H locs hP hD hS => ?_)
  have hP : va_P G.1 cls_all [(o, .inr (3, [.ref ln, .ref rn, .int (nI (lf ||| rf)), .int 0, .int (bI (lc && rc)), .ref q12, .int 0, .int (bI an)])), (q12, .inl (G.2.1 1, 24, .inr (.inl (fun _ => 0))))] H := hP
  have hD : va_D A [(o, .inr (3, [.ref ln, .ref rn, .int (nI (lf ||| rf)), .int 0, .int (bI (lc && rc)), .ref q12, .int 0, .int (bI an)])), (q12, .inl (G.2.1 1, 24, .inr (.inl (fun _ => 0))))] := hD
  refine lv_aload_n hx hb d_Join_init_20 rfl (lv_at hl 0 rfl) ?_
  refine lv_iload_n hx hb d_Join_init_21 rfl (lv_at hl 1 rfl) ?_
  refine mm_ifeqB hx hb d_Join_init_22 (tgt := 37) (by decide) (fun c22 => ?_) (fun c22 => ?_)
  · refine lv_aload_n hx hb d_Join_init_37 rfl (lv_at hl 2 rfl) ?_
    refine mm_get (v := .int (nI lr)) hK hx hb hown (lg_Join_17 cl hcl) (mm_ro hR hRN hS) 0 rfl rfl d_Join_init_38 ?_
    refine lv_aload_n hx hb d_Join_init_41 rfl (lv_at hl 3 rfl) ?_
    refine mm_get (v := .int (nI rr)) hK hx hb hown (lg_Join_17 cr hcr) (mm_ro hR hRN hS) 1 rfl rfl d_Join_init_42 ?_
    refine lv_iand hx hb d_Join_init_45 ?_
    refine mm_ti (y := nI (lr &&& rr)) (and8 _ h3 _ h4) ?_
    refine mm_put (v := .int (nI (lr &&& rr))) hK hx hb hown lp_Join_20 hP hD hS 0 rfl rfl rfl (Nat.le_of_ble_eq_true rfl) d_Join_init_46 (fun H locs hP hD hS => ?_)
    have hP : va_P G.1 cls_all [(o, .inr (3, [.ref ln, .ref rn, .int (nI (lf ||| rf)), .int (nI (lr &&& rr)), .int (bI (lc && rc)), .ref q12, .int 0, .int (bI an)])), (q12, .inl (G.2.1 1, 24, .inr (.inl (fun _ => 0))))] H := hP
    have hD : va_D A [(o, .inr (3, [.ref ln, .ref rn, .int (nI (lf ||| rf)), .int (nI (lr &&& rr)), .int (bI (lc && rc)), .ref q12, .int 0, .int (bI an)])), (q12, .inl (G.2.1 1, 24, .inr (.inl (fun _ => 0))))] := hD
    exact mm_vrQ hx hb hr hk hS d_Join_init_49 ⟨_, by rw [c22] at hP ⊢; exact hP, by rw [c22] at hD ⊢; exact hD⟩
  · refine lv_aload_n hx hb d_Join_init_25 rfl (lv_at hl 2 rfl) ?_
    refine mm_get (v := .int (nI lr)) hK hx hb hown (lg_Join_17 cl hcl) (mm_ro hR hRN hS) 0 rfl rfl d_Join_init_26 ?_
    refine lv_aload_n hx hb d_Join_init_29 rfl (lv_at hl 3 rfl) ?_
    refine mm_get (v := .int (nI rr)) hK hx hb hown (lg_Join_17 cr hcr) (mm_ro hR hRN hS) 1 rfl rfl d_Join_init_30 ?_
    refine lv_ior hx hb d_Join_init_33 ?_
    refine mm_ti (y := nI (lr ||| rr)) (or8 _ h3 _ h4) ?_
    refine lv_goto hx hb d_Join_init_34 (tgt := 46) (by decide) ?_
    refine mm_put (v := .int (nI (lr ||| rr))) hK hx hb hown lp_Join_20 hP hD hS 0 rfl rfl rfl (Nat.le_of_ble_eq_true rfl) d_Join_init_46 (fun H locs hP hD hS => ?_)
    have hP : va_P G.1 cls_all [(o, .inr (3, [.ref ln, .ref rn, .int (nI (lf ||| rf)), .int (nI (lr ||| rr)), .int (bI (lc && rc)), .ref q12, .int 0, .int (bI an)])), (q12, .inl (G.2.1 1, 24, .inr (.inl (fun _ => 0))))] H := hP
    have hD : va_D A [(o, .inr (3, [.ref ln, .ref rn, .int (nI (lf ||| rf)), .int (nI (lr ||| rr)), .int (bI (lc && rc)), .ref q12, .int 0, .int (bI an)])), (q12, .inl (G.2.1 1, 24, .inr (.inl (fun _ => 0))))] := hD
    exact mm_vrQ hx hb hr hk hS d_Join_init_49 ⟨_, by rw [c22] at hP ⊢; exact hP, by rw [c22] at hD ⊢; exact hD⟩
set_option maxHeartbeats 4000000 in
set_option maxRecDepth 100000 in
theorem c_Exists_init (l : Launch) (G : mm_G) {A : Nat → Prop} (o : Nat) (vr : Nat) (hv : vr ≤ 2) (ln cl : Nat) (hcl : cl < 8) (la0 la1 la5 la6 : Value) (lf lr : Nat) (lc : Bool) (lx : List Value) (h1 : lf < 8) (h3 : lr < 8) (hD : va_D A [(o, .inr (4, [.null, .null, .int 0, .int 0, .int 0, .null, .int 0, .int 0]))]) (hRN : ∀ q ∈ ([(ln, .inr (cl, [la0, la1, .int (nI lf), .int (nI lr), .int (bI lc), la5, la6] ++ lx))] : va_W), ¬ A q.1) : Met l y_Exists_init [.code y_Exists_init b_Exists_init 3 none] { frames := 2, cells := 1, slots := 24, locals := 35 } (mm_Pre G [.ref o, .int (nI vr), .ref ln] (fun H => va_P G.1 cls_all [(o, .inr (4, [.null, .null, .int 0, .int 0, .int 0, .null, .int 0, .int 0]))] H ∧ (∀ q, H.size ≤ q → A q) ∧ va_P G.1 cls_all [(ln, .inr (cl, [la0, la1, .int (nI lf), .int (nI lr), .int (bI lc), la5, la6] ++ lx))] H)) (mm_Qv (fun H => ∃ q, va_P G.1 cls_all [(o, .inr (4, [.ref ln, .null, .int (nI (clrN lf vr)), .int (nI (clrN lr vr)), .int (bI (lc && lr.testBit vr)), .ref q, .int 0, .int (nI vr)])), (q, .inl (G.2.1 1, 24, .inr (.inl (fun _ => 0))))] H ∧ va_D A [(o, .inr (4, [.ref ln, .null, .int (nI (clrN lf vr)), .int (nI (clrN lr vr)), .int (bI (lc && lr.testBit vr)), .ref q, .int 0, .int (nI vr)])), (q, .inl (G.2.1 1, 24, .inr (.inl (fun _ => 0))))]) A) 1 24 A := by
  refine mm_of (by decide) (Nat.le_of_ble_eq_true rfl) ?_
  intro p e s m below meth c ls hx hb hr hk hml hown hnm hK h0 hl
  have hl : lv_has ls 3 [(0, .ref o), (1, .int (nI vr)), (2, .ref ln)] := hl
  obtain ⟨hP, hA, hR⟩ := h0
  have hS : va_S A s.heap s.heap [] := va_S.rf
  refine lv_aload_n hx hb d_Exists_init_0 rfl (lv_at hl 0 rfl) ?_
  refine lv_aload_n hx hb d_Exists_init_1 rfl (lv_at hl 2 rfl) ?_
  refine lv_null hx hb d_Exists_init_2 ?_
  refine lv_aload_n hx hb d_Exists_init_3 rfl (lv_at hl 2 rfl) ?_
  refine mm_get (v := .int (nI lf)) hK hx hb hown (lg_Exists_1 cl hcl) (mm_ro hR hRN hS) 0 rfl rfl d_Exists_init_4 ?_
  refine lv_iconst hx hb d_Exists_init_7 ci_1 ?_
  refine lv_iload_n hx hb d_Exists_init_8 rfl (lv_at hl 1 rfl) ?_
  refine lv_ishl hx hb d_Exists_init_9 ?_
  refine lv_iconst hx hb d_Exists_init_10 ci_m1 ?_
  refine lv_ixor hx hb d_Exists_init_11 ?_
  refine lv_iand hx hb d_Exists_init_12 ?_
  refine mm_ti (y := nI (clrN lf vr)) (clr8 _ h1 _ hv) ?_
  refine mm_qv (mm_runI hK ⟨hx, hb, hml, hown⟩ lk_Exists_7 (c_Formula_initB l G o 4 (by decide) [.int 0] (nI (clrN lf vr)) ln cl hcl la0 la1 la5 la6 lf lr lc lx hD (fun q h => hRN q (by simp only [List.mem_cons, List.not_mem_nil, or_false] at h ⊢; first | exact h | exact Or.inl h | exact Or.inr h | (rcases h with h | h <;> simp [h])))) ⟨rfl, rfl, by decide, by decide⟩ ⟨hP, (fun q h => hA q (Nat.le_trans hS.1 h)), ((mm_ro hR hRN hS).sub (ws' := [(ln, .inr (cl, [la0, la1, .int (nI lf), .int (nI lr), .int (bI lc), la5, la6] ++ lx))]) [0] rfl)⟩ rfl hl.1 rfl (Nat.le_of_ble_eq_true rfl) ⟨by decide, by decide⟩ d_Exists_init_13) hS (fun q h => h) (fun H locs e13 hz1 hk1 hS => ?_)
  obtain ⟨q13, hP, hD⟩ := e13
  have hP : va_P G.1 cls_all [(o, .inr (4, [.ref ln, .null, .int (nI (clrN lf vr)), .int 0, .int (bI lc), .ref q13, .int 0, .int 0])), (q13, .inl (G.2.1 1, 24, .inr (.inl (fun _ => 0))))] H := hP
  have hD : va_D A [(o, .inr (4, [.ref ln, .null, .int (nI (clrN lf vr)), .int 0, .int (bI lc), .ref q13, .int 0, .int 0])), (q13, .inl (G.2.1 1, 24, .inr (.inl (fun _ => 0))))] := hD
  refine W.widen (k := 1) (n := 24) (by decide) (by decide) ?_
  refine lv_aload_n hx hb d_Exists_init_16 rfl (lv_at hl 0 rfl) ?_
  refine lv_iload_n hx hb d_Exists_init_17 rfl (lv_at hl 1 rfl) ?_
  refine mm_putF (v := .int (nI vr)) hK hx hb hown hnm lp_Exists_11 hP hD hS 0 rfl rfl rfl (Nat.le_of_ble_eq_true rfl) d_Exists_init_18 (fun H locs hP hD hS => ?_)
  have hP : va_P G.1 cls_all [(o, .inr (4, [.ref ln, .null, .int (nI (clrN lf vr)), .int 0, .int (bI lc), .ref q13, .int 0, .int (nI vr)])), (q13, .inl (G.2.1 1, 24, .inr (.inl (fun _ => 0))))] H := hP
  have hD : va_D A [(o, .inr (4, [.ref ln, .null, .int (nI (clrN lf vr)), .int 0, .int (bI lc), .ref q13, .int 0, .int (nI vr)])), (q13, .inl (G.2.1 1, 24, .inr (.inl (fun _ => 0))))] := hD
  refine lv_aload_n hx hb d_Exists_init_21 rfl (lv_at hl 0 rfl) ?_
  refine lv_aload_n hx hb d_Exists_init_22 rfl (lv_at hl 2 rfl) ?_
  refine mm_get (v := .int (nI lr)) hK hx hb hown (lg_Exists_16 cl hcl) (mm_ro hR hRN hS) 0 rfl rfl d_Exists_init_23 ?_
  refine lv_iconst hx hb d_Exists_init_26 ci_1 ?_
  refine lv_iload_n hx hb d_Exists_init_27 rfl (lv_at hl 1 rfl) ?_
  refine lv_ishl hx hb d_Exists_init_28 ?_
  refine lv_iconst hx hb d_Exists_init_29 ci_m1 ?_
  refine lv_ixor hx hb d_Exists_init_30 ?_
  refine lv_iand hx hb d_Exists_init_31 ?_
  refine mm_ti (y := nI (clrN lr vr)) (clr8 _ h3 _ hv) ?_
  refine mm_put (v := .int (nI (clrN lr vr))) hK hx hb hown lp_Exists_19 hP hD hS 0 rfl rfl rfl (Nat.le_of_ble_eq_true rfl) d_Exists_init_32 (fun H locs hP hD hS => ?_)
  have hP : va_P G.1 cls_all [(o, .inr (4, [.ref ln, .null, .int (nI (clrN lf vr)), .int (nI (clrN lr vr)), .int (bI lc), .ref q13, .int 0, .int (nI vr)])), (q13, .inl (G.2.1 1, 24, .inr (.inl (fun _ => 0))))] H := hP
  have hD : va_D A [(o, .inr (4, [.ref ln, .null, .int (nI (clrN lf vr)), .int (nI (clrN lr vr)), .int (bI lc), .ref q13, .int 0, .int (nI vr)])), (q13, .inl (G.2.1 1, 24, .inr (.inl (fun _ => 0))))] := hD
  refine lv_aload_n hx hb d_Exists_init_35 rfl (lv_at hl 0 rfl) ?_
  refine lv_aload_n hx hb d_Exists_init_36 rfl (lv_at hl 0 rfl) ?_
  refine mm_get (v := .int (bI lc)) hK hx hb hown lg_Exists_20 hP 0 rfl rfl d_Exists_init_37 ?_
  refine mm_ifeqB hx hb d_Exists_init_40 (tgt := 58) (by decide) (fun c40 => ?_) (fun c40 => ?_)
  · refine lv_iconst hx hb d_Exists_init_58 ci_0 ?_
    refine mm_ti (y := bI false) (by decide) ?_
    refine mm_put (v := .int (bI false)) hK hx hb hown lp_Exists_20 hP hD hS 0 rfl (bI_nar _) (bI_fit _) (Nat.le_of_ble_eq_true rfl) d_Exists_init_59 (fun H locs hP hD hS => ?_)
    have hP : va_P G.1 cls_all [(o, .inr (4, [.ref ln, .null, .int (nI (clrN lf vr)), .int (nI (clrN lr vr)), .int (bI false), .ref q13, .int 0, .int (nI vr)])), (q13, .inl (G.2.1 1, 24, .inr (.inl (fun _ => 0))))] H := hP
    have hD : va_D A [(o, .inr (4, [.ref ln, .null, .int (nI (clrN lf vr)), .int (nI (clrN lr vr)), .int (bI false), .ref q13, .int 0, .int (nI vr)])), (q13, .inl (G.2.1 1, 24, .inr (.inl (fun _ => 0))))] := hD
    exact mm_vrQ hx hb hr hk hS d_Exists_init_62 ⟨_, by rw [c40]; exact hP, by rw [c40]; exact hD⟩
  · refine lv_aload_n hx hb d_Exists_init_43 rfl (lv_at hl 2 rfl) ?_
    refine mm_get (v := .int (nI lr)) hK hx hb hown (lg_Exists_16 cl hcl) (mm_ro hR hRN hS) 0 rfl rfl d_Exists_init_44 ?_
    refine lv_iload_n hx hb d_Exists_init_47 rfl (lv_at hl 1 rfl) ?_
    refine lv_ishr hx hb d_Exists_init_48 ?_
    refine lv_iconst hx hb d_Exists_init_49 ci_1 ?_
    refine lv_iand hx hb d_Exists_init_50 ?_
    refine mm_ti (y := nI (if lr.testBit vr = true then 1 else 0)) (bit8 _ h3 _ hv) ?_
    have z2 : (if lr.testBit vr = true then 1 else 0) < 8 := by split <;> decide
    refine lv_if_eq hx hb d_Exists_init_51 (tgt := 58) (by decide) (fun c51 => ?_) (fun c51 => ?_)
    · have c51 : (if lr.testBit vr = true then 1 else 0) = 0 := nb_zeqt (by omega) c51
      have b51 : lr.testBit vr = false := by (cases hz9 : lr.testBit vr; rfl; (rw [hz9] at c51; cases c51))
      refine lv_iconst hx hb d_Exists_init_58 ci_0 ?_
      refine mm_ti (y := bI false) (by decide) ?_
      refine mm_put (v := .int (bI false)) hK hx hb hown lp_Exists_20 hP hD hS 0 rfl (bI_nar _) (bI_fit _) (Nat.le_of_ble_eq_true rfl) d_Exists_init_59 (fun H locs hP hD hS => ?_)
      have hP : va_P G.1 cls_all [(o, .inr (4, [.ref ln, .null, .int (nI (clrN lf vr)), .int (nI (clrN lr vr)), .int (bI false), .ref q13, .int 0, .int (nI vr)])), (q13, .inl (G.2.1 1, 24, .inr (.inl (fun _ => 0))))] H := hP
      have hD : va_D A [(o, .inr (4, [.ref ln, .null, .int (nI (clrN lf vr)), .int (nI (clrN lr vr)), .int (bI false), .ref q13, .int 0, .int (nI vr)])), (q13, .inl (G.2.1 1, 24, .inr (.inl (fun _ => 0))))] := hD
      exact mm_vrQ hx hb hr hk hS d_Exists_init_62 ⟨_, by rw [c40, b51]; exact hP, by rw [c40, b51]; exact hD⟩
    · have c51 : (if lr.testBit vr = true then 1 else 0) ≠ 0 := nb_zeqf (by omega) c51
      have b51 : lr.testBit vr = true := by (cases hz9 : lr.testBit vr; (rw [hz9] at c51; exact absurd rfl c51); rfl)
      refine lv_iconst hx hb d_Exists_init_54 ci_1 ?_
      refine lv_goto hx hb d_Exists_init_55 (tgt := 59) (by decide) ?_
      refine mm_ti (y := bI true) (by decide) ?_
      refine mm_put (v := .int (bI true)) hK hx hb hown lp_Exists_20 hP hD hS 0 rfl (bI_nar _) (bI_fit _) (Nat.le_of_ble_eq_true rfl) d_Exists_init_59 (fun H locs hP hD hS => ?_)
      have hP : va_P G.1 cls_all [(o, .inr (4, [.ref ln, .null, .int (nI (clrN lf vr)), .int (nI (clrN lr vr)), .int (bI true), .ref q13, .int 0, .int (nI vr)])), (q13, .inl (G.2.1 1, 24, .inr (.inl (fun _ => 0))))] H := hP
      have hD : va_D A [(o, .inr (4, [.ref ln, .null, .int (nI (clrN lf vr)), .int (nI (clrN lr vr)), .int (bI true), .ref q13, .int 0, .int (nI vr)])), (q13, .inl (G.2.1 1, 24, .inr (.inl (fun _ => 0))))] := hD
      exact mm_vrQ hx hb hr hk hS d_Exists_init_62 ⟨_, by rw [c40, b51]; exact hP, by rw [c40, b51]; exact hD⟩
set_option maxHeartbeats 4000000 in
set_option maxRecDepth 100000 in
theorem c_Previous_init (l : Launch) (G : mm_G) {A : Nat → Prop} (o : Nat) (iv : Nat) (ln cl : Nat) (hcl : cl < 8) (la0 la1 la5 la6 : Value) (lf lr : Nat) (lc : Bool) (lx : List Value) (hD : va_D A [(o, .inr (5, [.null, .null, .int 0, .int 0, .int 0, .null, .int 0, .null]))]) (hRN : ∀ q ∈ ([(ln, .inr (cl, [la0, la1, .int (nI lf), .int (nI lr), .int (bI lc), la5, la6] ++ lx))] : va_W), ¬ A q.1) : Met l y_Previous_init [.code y_Previous_init b_Previous_init 3 none] { frames := 2, cells := 1, slots := 24, locals := 35 } (mm_Pre G [.ref o, .ref iv, .ref ln] (fun H => va_P G.1 cls_all [(o, .inr (5, [.null, .null, .int 0, .int 0, .int 0, .null, .int 0, .null]))] H ∧ (∀ q, H.size ≤ q → A q) ∧ va_P G.1 cls_all [(ln, .inr (cl, [la0, la1, .int (nI lf), .int (nI lr), .int (bI lc), la5, la6] ++ lx))] H)) (mm_Qv (fun H => ∃ q, va_P G.1 cls_all [(o, .inr (5, [.ref ln, .null, .int (nI lf), .int (nI lr), .int (bI lc), .ref q, .int 0, .ref iv])), (q, .inl (G.2.1 1, 24, .inr (.inl (fun _ => 0))))] H ∧ va_D A [(o, .inr (5, [.ref ln, .null, .int (nI lf), .int (nI lr), .int (bI lc), .ref q, .int 0, .ref iv])), (q, .inl (G.2.1 1, 24, .inr (.inl (fun _ => 0))))]) A) 1 24 A := by
  refine mm_of (by decide) (Nat.le_of_ble_eq_true rfl) ?_
  intro p e s m below meth c ls hx hb hr hk hml hown hnm hK h0 hl
  have hl : lv_has ls 3 [(0, .ref o), (1, .ref iv), (2, .ref ln)] := hl
  obtain ⟨hP, hA, hR⟩ := h0
  have hS : va_S A s.heap s.heap [] := va_S.rf
  refine lv_aload_n hx hb d_Previous_init_0 rfl (lv_at hl 0 rfl) ?_
  refine lv_aload_n hx hb d_Previous_init_1 rfl (lv_at hl 2 rfl) ?_
  refine lv_null hx hb d_Previous_init_2 ?_
  refine lv_aload_n hx hb d_Previous_init_3 rfl (lv_at hl 2 rfl) ?_
  refine mm_get (v := .int (nI lf)) hK hx hb hown (lg_Previous_1 cl hcl) (mm_ro hR hRN hS) 0 rfl rfl d_Previous_init_4 ?_
  refine mm_qv (mm_runI hK ⟨hx, hb, hml, hown⟩ lk_Previous_7 (c_Formula_initB l G o 5 (by decide) [.null] (nI lf) ln cl hcl la0 la1 la5 la6 lf lr lc lx hD (fun q h => hRN q (by simp only [List.mem_cons, List.not_mem_nil, or_false] at h ⊢; first | exact h | exact Or.inl h | exact Or.inr h | (rcases h with h | h <;> simp [h])))) ⟨rfl, rfl, by decide, by decide⟩ ⟨hP, (fun q h => hA q (Nat.le_trans hS.1 h)), ((mm_ro hR hRN hS).sub (ws' := [(ln, .inr (cl, [la0, la1, .int (nI lf), .int (nI lr), .int (bI lc), la5, la6] ++ lx))]) [0] rfl)⟩ rfl hl.1 rfl (Nat.le_of_ble_eq_true rfl) ⟨by decide, by decide⟩ d_Previous_init_7) hS (fun q h => h) (fun H locs e7 hz1 hk1 hS => ?_)
  obtain ⟨q7, hP, hD⟩ := e7
  have hP : va_P G.1 cls_all [(o, .inr (5, [.ref ln, .null, .int (nI lf), .int 0, .int (bI lc), .ref q7, .int 0, .null])), (q7, .inl (G.2.1 1, 24, .inr (.inl (fun _ => 0))))] H := hP
  have hD : va_D A [(o, .inr (5, [.ref ln, .null, .int (nI lf), .int 0, .int (bI lc), .ref q7, .int 0, .null])), (q7, .inl (G.2.1 1, 24, .inr (.inl (fun _ => 0))))] := hD
  refine W.widen (k := 1) (n := 24) (by decide) (by decide) ?_
  refine lv_aload_n hx hb d_Previous_init_10 rfl (lv_at hl 0 rfl) ?_
  refine lv_aload_n hx hb d_Previous_init_11 rfl (lv_at hl 1 rfl) ?_
  refine mm_putF (v := .ref iv) hK hx hb hown hnm lp_Previous_11 hP hD hS 0 rfl rfl rfl (Nat.le_of_ble_eq_true rfl) d_Previous_init_12 (fun H locs hP hD hS => ?_)
  have hP : va_P G.1 cls_all [(o, .inr (5, [.ref ln, .null, .int (nI lf), .int 0, .int (bI lc), .ref q7, .int 0, .ref iv])), (q7, .inl (G.2.1 1, 24, .inr (.inl (fun _ => 0))))] H := hP
  have hD : va_D A [(o, .inr (5, [.ref ln, .null, .int (nI lf), .int 0, .int (bI lc), .ref q7, .int 0, .ref iv])), (q7, .inl (G.2.1 1, 24, .inr (.inl (fun _ => 0))))] := hD
  refine lv_aload_n hx hb d_Previous_init_15 rfl (lv_at hl 0 rfl) ?_
  refine lv_aload_n hx hb d_Previous_init_16 rfl (lv_at hl 2 rfl) ?_
  refine mm_get (v := .int (nI lr)) hK hx hb hown (lg_Previous_17 cl hcl) (mm_ro hR hRN hS) 0 rfl rfl d_Previous_init_17 ?_
  refine mm_put (v := .int (nI lr)) hK hx hb hown lp_Previous_20 hP hD hS 0 rfl rfl rfl (Nat.le_of_ble_eq_true rfl) d_Previous_init_20 (fun H locs hP hD hS => ?_)
  have hP : va_P G.1 cls_all [(o, .inr (5, [.ref ln, .null, .int (nI lf), .int (nI lr), .int (bI lc), .ref q7, .int 0, .ref iv])), (q7, .inl (G.2.1 1, 24, .inr (.inl (fun _ => 0))))] H := hP
  have hD : va_D A [(o, .inr (5, [.ref ln, .null, .int (nI lf), .int (nI lr), .int (bI lc), .ref q7, .int 0, .ref iv])), (q7, .inl (G.2.1 1, 24, .inr (.inl (fun _ => 0))))] := hD
  exact mm_vrQ hx hb hr hk hS d_Previous_init_23 ⟨_, hP, hD⟩
set_option maxHeartbeats 4000000 in
set_option maxRecDepth 100000 in
theorem c_Since_init (l : Launch) (G : mm_G) {A : Nat → Prop} (o : Nat) (iv : Nat) (ln cl : Nat) (hcl : cl < 8) (la0 la1 la5 la6 : Value) (lf lr : Nat) (lc : Bool) (lx : List Value) (rn cr : Nat) (hcr : cr < 8) (ra0 ra1 ra5 ra6 : Value) (rf rr : Nat) (rc : Bool) (rx : List Value) (h1 : lf < 8) (h2 : rf < 8) (hD : va_D A [(o, .inr (6, [.null, .null, .int 0, .int 0, .int 0, .null, .int 0, .null, .null, .int 0]))]) (hRN : ∀ q ∈ ([(ln, .inr (cl, [la0, la1, .int (nI lf), .int (nI lr), .int (bI lc), la5, la6] ++ lx)), (rn, .inr (cr, [ra0, ra1, .int (nI rf), .int (nI rr), .int (bI rc), ra5, ra6] ++ rx))] : va_W), ¬ A q.1) : Met l y_Since_init [.code y_Since_init b_Since_init 4 none] { frames := 2, cells := 2, slots := 48, locals := 35 } (mm_Pre G [.ref o, .ref iv, .ref ln, .ref rn] (fun H => va_P G.1 cls_all [(o, .inr (6, [.null, .null, .int 0, .int 0, .int 0, .null, .int 0, .null, .null, .int 0]))] H ∧ (∀ q, H.size ≤ q → A q) ∧ va_P G.1 cls_all [(ln, .inr (cl, [la0, la1, .int (nI lf), .int (nI lr), .int (bI lc), la5, la6] ++ lx)), (rn, .inr (cr, [ra0, ra1, .int (nI rf), .int (nI rr), .int (bI rc), ra5, ra6] ++ rx))] H)) (mm_Qv (fun H => ∃ q qx, va_P G.1 cls_all [(o, .inr (6, [.ref ln, .ref rn, .int (nI (lf ||| rf)), .int (nI rr), .int (bI (lc && rc)), .ref q, .int 0, .ref iv, .ref qx, .int 0])), (q, .inl (G.2.1 1, 24, .inr (.inl (fun _ => 0)))), (qx, .inl (G.2.1 1, 24, .inr (.inl (fun _ => 0))))] H ∧ va_D A [(o, .inr (6, [.ref ln, .ref rn, .int (nI (lf ||| rf)), .int (nI rr), .int (bI (lc && rc)), .ref q, .int 0, .ref iv, .ref qx, .int 0])), (q, .inl (G.2.1 1, 24, .inr (.inl (fun _ => 0)))), (qx, .inl (G.2.1 1, 24, .inr (.inl (fun _ => 0))))]) A) 2 48 A := by
  refine mm_of (by decide) (Nat.le_of_ble_eq_true rfl) ?_
  intro p e s m below meth c ls hx hb hr hk hml hown hnm hK h0 hl
  have hl : lv_has ls 4 [(0, .ref o), (1, .ref iv), (2, .ref ln), (3, .ref rn)] := hl
  obtain ⟨hP, hA, hR⟩ := h0
  have hS : va_S A s.heap s.heap [] := va_S.rf
  refine lv_aload_n hx hb d_Since_init_0 rfl (lv_at hl 0 rfl) ?_
  refine lv_aload_n hx hb d_Since_init_1 rfl (lv_at hl 2 rfl) ?_
  refine lv_aload_n hx hb d_Since_init_2 rfl (lv_at hl 3 rfl) ?_
  refine lv_aload_n hx hb d_Since_init_3 rfl (lv_at hl 2 rfl) ?_
  refine mm_get (v := .int (nI lf)) hK hx hb hown (lg_Since_3 cl hcl) (mm_ro hR hRN hS) 0 rfl rfl d_Since_init_4 ?_
  refine lv_aload_n hx hb d_Since_init_7 rfl (lv_at hl 3 rfl) ?_
  refine mm_get (v := .int (nI rf)) hK hx hb hown (lg_Since_3 cr hcr) (mm_ro hR hRN hS) 1 rfl rfl d_Since_init_8 ?_
  refine lv_ior hx hb d_Since_init_11 ?_
  refine mm_ti (y := nI (lf ||| rf)) (or8 _ h1 _ h2) ?_
  refine mm_qv (mm_runI hK ⟨hx, hb, hml, hown⟩ lk_Since_9 (c_Formula_initC l G o 6 (by decide) [.null, .null, .int 0] (nI (lf ||| rf)) ln cl hcl la0 la1 la5 la6 lf lr lc lx rn cr hcr ra0 ra1 ra5 ra6 rf rr rc rx hD (fun q h => hRN q (by simp only [List.mem_cons, List.not_mem_nil, or_false] at h ⊢; first | exact h | exact Or.inl h | exact Or.inr h | (rcases h with h | h <;> simp [h])))) ⟨rfl, rfl, by decide, by decide⟩ ⟨hP, (fun q h => hA q (Nat.le_trans hS.1 h)), ((mm_ro hR hRN hS).sub (ws' := [(ln, .inr (cl, [la0, la1, .int (nI lf), .int (nI lr), .int (bI lc), la5, la6] ++ lx)), (rn, .inr (cr, [ra0, ra1, .int (nI rf), .int (nI rr), .int (bI rc), ra5, ra6] ++ rx))]) [0, 1] rfl)⟩ rfl hl.1 rfl (Nat.le_of_ble_eq_true rfl) ⟨by decide, by decide⟩ d_Since_init_12) hS (fun q h => h) (fun H locs e12 hz1 hk1 hS => ?_)
  obtain ⟨q12, hP, hD⟩ := e12
  have hP : va_P G.1 cls_all [(o, .inr (6, [.ref ln, .ref rn, .int (nI (lf ||| rf)), .int 0, .int (bI (lc && rc)), .ref q12, .int 0, .null, .null, .int 0])), (q12, .inl (G.2.1 1, 24, .inr (.inl (fun _ => 0))))] H := hP
  have hD : va_D A [(o, .inr (6, [.ref ln, .ref rn, .int (nI (lf ||| rf)), .int 0, .int (bI (lc && rc)), .ref q12, .int 0, .null, .null, .int 0])), (q12, .inl (G.2.1 1, 24, .inr (.inl (fun _ => 0))))] := hD
  refine W.widen (k := 1) (n := 24) (by decide) (by decide) ?_
  refine lv_aload_n hx hb d_Since_init_15 rfl (lv_at hl 0 rfl) ?_
  refine lv_bipush (v := nI 24) hx hb d_Since_init_16 (by decide) ?_
  refine mm_newa (atype := .long) (a0 := (24, .inr (.inl (fun _ => 0)))) hK hx hb kw_250 rfl 1 rfl hP hD hS hA (z_long 24) (by decide) (by decide) (by decide) (by decide) d_Since_init_18 (fun q18 H hP hD hS => ?_)
  have hP : va_P G.1 cls_all [(o, .inr (6, [.ref ln, .ref rn, .int (nI (lf ||| rf)), .int 0, .int (bI (lc && rc)), .ref q12, .int 0, .null, .null, .int 0])), (q12, .inl (G.2.1 1, 24, .inr (.inl (fun _ => 0)))), (q18, .inl (G.2.1 1, 24, .inr (.inl (fun _ => 0))))] H := hP
  have hD : va_D A [(o, .inr (6, [.ref ln, .ref rn, .int (nI (lf ||| rf)), .int 0, .int (bI (lc && rc)), .ref q12, .int 0, .null, .null, .int 0])), (q12, .inl (G.2.1 1, 24, .inr (.inl (fun _ => 0)))), (q18, .inl (G.2.1 1, 24, .inr (.inl (fun _ => 0))))] := hD
  refine W.widen (k := 2) (n := 48) (by decide) (by decide) ?_
  refine mm_putF (v := .ref q18) hK hx hb hown hnm lp_Since_13 hP hD hS 0 rfl rfl rfl (Nat.le_of_ble_eq_true rfl) d_Since_init_20 (fun H locs hP hD hS => ?_)
  have hP : va_P G.1 cls_all [(o, .inr (6, [.ref ln, .ref rn, .int (nI (lf ||| rf)), .int 0, .int (bI (lc && rc)), .ref q12, .int 0, .null, .ref q18, .int 0])), (q12, .inl (G.2.1 1, 24, .inr (.inl (fun _ => 0)))), (q18, .inl (G.2.1 1, 24, .inr (.inl (fun _ => 0))))] H := hP
  have hD : va_D A [(o, .inr (6, [.ref ln, .ref rn, .int (nI (lf ||| rf)), .int 0, .int (bI (lc && rc)), .ref q12, .int 0, .null, .ref q18, .int 0])), (q12, .inl (G.2.1 1, 24, .inr (.inl (fun _ => 0)))), (q18, .inl (G.2.1 1, 24, .inr (.inl (fun _ => 0))))] := hD
  refine lv_aload_n hx hb d_Since_init_23 rfl (lv_at hl 0 rfl) ?_
  refine lv_aload_n hx hb d_Since_init_24 rfl (lv_at hl 1 rfl) ?_
  refine mm_putF (v := .ref iv) hK hx hb hown hnm lp_Since_19 hP hD hS 0 rfl rfl rfl (Nat.le_of_ble_eq_true rfl) d_Since_init_25 (fun H locs hP hD hS => ?_)
  have hP : va_P G.1 cls_all [(o, .inr (6, [.ref ln, .ref rn, .int (nI (lf ||| rf)), .int 0, .int (bI (lc && rc)), .ref q12, .int 0, .ref iv, .ref q18, .int 0])), (q12, .inl (G.2.1 1, 24, .inr (.inl (fun _ => 0)))), (q18, .inl (G.2.1 1, 24, .inr (.inl (fun _ => 0))))] H := hP
  have hD : va_D A [(o, .inr (6, [.ref ln, .ref rn, .int (nI (lf ||| rf)), .int 0, .int (bI (lc && rc)), .ref q12, .int 0, .ref iv, .ref q18, .int 0])), (q12, .inl (G.2.1 1, 24, .inr (.inl (fun _ => 0)))), (q18, .inl (G.2.1 1, 24, .inr (.inl (fun _ => 0))))] := hD
  refine lv_aload_n hx hb d_Since_init_28 rfl (lv_at hl 0 rfl) ?_
  refine lv_aload_n hx hb d_Since_init_29 rfl (lv_at hl 3 rfl) ?_
  refine mm_get (v := .int (nI rr)) hK hx hb hown (lg_Since_23 cr hcr) (mm_ro hR hRN hS) 1 rfl rfl d_Since_init_30 ?_
  refine mm_put (v := .int (nI rr)) hK hx hb hown lp_Since_26 hP hD hS 0 rfl rfl rfl (Nat.le_of_ble_eq_true rfl) d_Since_init_33 (fun H locs hP hD hS => ?_)
  have hP : va_P G.1 cls_all [(o, .inr (6, [.ref ln, .ref rn, .int (nI (lf ||| rf)), .int (nI rr), .int (bI (lc && rc)), .ref q12, .int 0, .ref iv, .ref q18, .int 0])), (q12, .inl (G.2.1 1, 24, .inr (.inl (fun _ => 0)))), (q18, .inl (G.2.1 1, 24, .inr (.inl (fun _ => 0))))] H := hP
  have hD : va_D A [(o, .inr (6, [.ref ln, .ref rn, .int (nI (lf ||| rf)), .int (nI rr), .int (bI (lc && rc)), .ref q12, .int 0, .ref iv, .ref q18, .int 0])), (q12, .inl (G.2.1 1, 24, .inr (.inl (fun _ => 0)))), (q18, .inl (G.2.1 1, 24, .inr (.inl (fun _ => 0))))] := hD
  exact mm_vrQ hx hb hr hk hS d_Since_init_36 ⟨_, _, hP, hD⟩
set_option maxHeartbeats 4000000 in
set_option maxRecDepth 100000 in
theorem c_Until_init (l : Launch) (G : mm_G) {A : Nat → Prop} (o : Nat) (iv : Nat) (ln cl : Nat) (hcl : cl < 8) (la0 la1 la5 la6 : Value) (lf lr : Nat) (lc : Bool) (lx : List Value) (rn cr : Nat) (hcr : cr < 8) (ra0 ra1 ra5 ra6 : Value) (rf rr : Nat) (rc : Bool) (rx : List Value) (h1 : lf < 8) (h2 : rf < 8) (hD : va_D A [(o, .inr (7, [.null, .null, .int 0, .int 0, .int 0, .null, .int 0, .null, .null, .int 0]))]) (hRN : ∀ q ∈ ([(ln, .inr (cl, [la0, la1, .int (nI lf), .int (nI lr), .int (bI lc), la5, la6] ++ lx)), (rn, .inr (cr, [ra0, ra1, .int (nI rf), .int (nI rr), .int (bI rc), ra5, ra6] ++ rx))] : va_W), ¬ A q.1) : Met l y_Until_init [.code y_Until_init b_Until_init 4 none] { frames := 2, cells := 2, slots := 48, locals := 35 } (mm_Pre G [.ref o, .ref iv, .ref ln, .ref rn] (fun H => va_P G.1 cls_all [(o, .inr (7, [.null, .null, .int 0, .int 0, .int 0, .null, .int 0, .null, .null, .int 0]))] H ∧ (∀ q, H.size ≤ q → A q) ∧ va_P G.1 cls_all [(ln, .inr (cl, [la0, la1, .int (nI lf), .int (nI lr), .int (bI lc), la5, la6] ++ lx)), (rn, .inr (cr, [ra0, ra1, .int (nI rf), .int (nI rr), .int (bI rc), ra5, ra6] ++ rx))] H)) (mm_Qv (fun H => ∃ q qx, va_P G.1 cls_all [(o, .inr (7, [.ref ln, .ref rn, .int (nI (lf ||| rf)), .int (nI rr), .int (bI (lc && rc)), .ref q, .int 0, .ref iv, .ref qx, .int 0])), (q, .inl (G.2.1 1, 24, .inr (.inl (fun _ => 0)))), (qx, .inl (G.2.1 1, 24, .inr (.inl (fun _ => 0))))] H ∧ va_D A [(o, .inr (7, [.ref ln, .ref rn, .int (nI (lf ||| rf)), .int (nI rr), .int (bI (lc && rc)), .ref q, .int 0, .ref iv, .ref qx, .int 0])), (q, .inl (G.2.1 1, 24, .inr (.inl (fun _ => 0)))), (qx, .inl (G.2.1 1, 24, .inr (.inl (fun _ => 0))))]) A) 2 48 A := by
  refine mm_of (by decide) (Nat.le_of_ble_eq_true rfl) ?_
  intro p e s m below meth c ls hx hb hr hk hml hown hnm hK h0 hl
  have hl : lv_has ls 4 [(0, .ref o), (1, .ref iv), (2, .ref ln), (3, .ref rn)] := hl
  obtain ⟨hP, hA, hR⟩ := h0
  have hS : va_S A s.heap s.heap [] := va_S.rf
  refine lv_aload_n hx hb d_Until_init_0 rfl (lv_at hl 0 rfl) ?_
  refine lv_aload_n hx hb d_Until_init_1 rfl (lv_at hl 2 rfl) ?_
  refine lv_aload_n hx hb d_Until_init_2 rfl (lv_at hl 3 rfl) ?_
  refine lv_aload_n hx hb d_Until_init_3 rfl (lv_at hl 2 rfl) ?_
  refine mm_get (v := .int (nI lf)) hK hx hb hown (lg_Until_1 cl hcl) (mm_ro hR hRN hS) 0 rfl rfl d_Until_init_4 ?_
  refine lv_aload_n hx hb d_Until_init_7 rfl (lv_at hl 3 rfl) ?_
  refine mm_get (v := .int (nI rf)) hK hx hb hown (lg_Until_1 cr hcr) (mm_ro hR hRN hS) 1 rfl rfl d_Until_init_8 ?_
  refine lv_ior hx hb d_Until_init_11 ?_
  refine mm_ti (y := nI (lf ||| rf)) (or8 _ h1 _ h2) ?_
  refine mm_qv (mm_runI hK ⟨hx, hb, hml, hown⟩ lk_Until_7 (c_Formula_initC l G o 7 (by decide) [.null, .null, .int 0] (nI (lf ||| rf)) ln cl hcl la0 la1 la5 la6 lf lr lc lx rn cr hcr ra0 ra1 ra5 ra6 rf rr rc rx hD (fun q h => hRN q (by simp only [List.mem_cons, List.not_mem_nil, or_false] at h ⊢; first | exact h | exact Or.inl h | exact Or.inr h | (rcases h with h | h <;> simp [h])))) ⟨rfl, rfl, by decide, by decide⟩ ⟨hP, (fun q h => hA q (Nat.le_trans hS.1 h)), ((mm_ro hR hRN hS).sub (ws' := [(ln, .inr (cl, [la0, la1, .int (nI lf), .int (nI lr), .int (bI lc), la5, la6] ++ lx)), (rn, .inr (cr, [ra0, ra1, .int (nI rf), .int (nI rr), .int (bI rc), ra5, ra6] ++ rx))]) [0, 1] rfl)⟩ rfl hl.1 rfl (Nat.le_of_ble_eq_true rfl) ⟨by decide, by decide⟩ d_Until_init_12) hS (fun q h => h) (fun H locs e12 hz1 hk1 hS => ?_)
  obtain ⟨q12, hP, hD⟩ := e12
  have hP : va_P G.1 cls_all [(o, .inr (7, [.ref ln, .ref rn, .int (nI (lf ||| rf)), .int 0, .int (bI (lc && rc)), .ref q12, .int 0, .null, .null, .int 0])), (q12, .inl (G.2.1 1, 24, .inr (.inl (fun _ => 0))))] H := hP
  have hD : va_D A [(o, .inr (7, [.ref ln, .ref rn, .int (nI (lf ||| rf)), .int 0, .int (bI (lc && rc)), .ref q12, .int 0, .null, .null, .int 0])), (q12, .inl (G.2.1 1, 24, .inr (.inl (fun _ => 0))))] := hD
  refine W.widen (k := 1) (n := 24) (by decide) (by decide) ?_
  refine lv_aload_n hx hb d_Until_init_15 rfl (lv_at hl 0 rfl) ?_
  refine lv_bipush (v := nI 24) hx hb d_Until_init_16 (by decide) ?_
  refine mm_newa (atype := .long) (a0 := (24, .inr (.inl (fun _ => 0)))) hK hx hb kw_250 rfl 1 rfl hP hD hS hA (z_long 24) (by decide) (by decide) (by decide) (by decide) d_Until_init_18 (fun q18 H hP hD hS => ?_)
  have hP : va_P G.1 cls_all [(o, .inr (7, [.ref ln, .ref rn, .int (nI (lf ||| rf)), .int 0, .int (bI (lc && rc)), .ref q12, .int 0, .null, .null, .int 0])), (q12, .inl (G.2.1 1, 24, .inr (.inl (fun _ => 0)))), (q18, .inl (G.2.1 1, 24, .inr (.inl (fun _ => 0))))] H := hP
  have hD : va_D A [(o, .inr (7, [.ref ln, .ref rn, .int (nI (lf ||| rf)), .int 0, .int (bI (lc && rc)), .ref q12, .int 0, .null, .null, .int 0])), (q12, .inl (G.2.1 1, 24, .inr (.inl (fun _ => 0)))), (q18, .inl (G.2.1 1, 24, .inr (.inl (fun _ => 0))))] := hD
  refine W.widen (k := 2) (n := 48) (by decide) (by decide) ?_
  refine mm_putF (v := .ref q18) hK hx hb hown hnm lp_Until_11 hP hD hS 0 rfl rfl rfl (Nat.le_of_ble_eq_true rfl) d_Until_init_20 (fun H locs hP hD hS => ?_)
  have hP : va_P G.1 cls_all [(o, .inr (7, [.ref ln, .ref rn, .int (nI (lf ||| rf)), .int 0, .int (bI (lc && rc)), .ref q12, .int 0, .null, .ref q18, .int 0])), (q12, .inl (G.2.1 1, 24, .inr (.inl (fun _ => 0)))), (q18, .inl (G.2.1 1, 24, .inr (.inl (fun _ => 0))))] H := hP
  have hD : va_D A [(o, .inr (7, [.ref ln, .ref rn, .int (nI (lf ||| rf)), .int 0, .int (bI (lc && rc)), .ref q12, .int 0, .null, .ref q18, .int 0])), (q12, .inl (G.2.1 1, 24, .inr (.inl (fun _ => 0)))), (q18, .inl (G.2.1 1, 24, .inr (.inl (fun _ => 0))))] := hD
  refine lv_aload_n hx hb d_Until_init_23 rfl (lv_at hl 0 rfl) ?_
  refine lv_aload_n hx hb d_Until_init_24 rfl (lv_at hl 1 rfl) ?_
  refine mm_putF (v := .ref iv) hK hx hb hown hnm lp_Until_17 hP hD hS 0 rfl rfl rfl (Nat.le_of_ble_eq_true rfl) d_Until_init_25 (fun H locs hP hD hS => ?_)
  have hP : va_P G.1 cls_all [(o, .inr (7, [.ref ln, .ref rn, .int (nI (lf ||| rf)), .int 0, .int (bI (lc && rc)), .ref q12, .int 0, .ref iv, .ref q18, .int 0])), (q12, .inl (G.2.1 1, 24, .inr (.inl (fun _ => 0)))), (q18, .inl (G.2.1 1, 24, .inr (.inl (fun _ => 0))))] H := hP
  have hD : va_D A [(o, .inr (7, [.ref ln, .ref rn, .int (nI (lf ||| rf)), .int 0, .int (bI (lc && rc)), .ref q12, .int 0, .ref iv, .ref q18, .int 0])), (q12, .inl (G.2.1 1, 24, .inr (.inl (fun _ => 0)))), (q18, .inl (G.2.1 1, 24, .inr (.inl (fun _ => 0))))] := hD
  refine lv_aload_n hx hb d_Until_init_28 rfl (lv_at hl 0 rfl) ?_
  refine lv_aload_n hx hb d_Until_init_29 rfl (lv_at hl 3 rfl) ?_
  refine mm_get (v := .int (nI rr)) hK hx hb hown (lg_Until_21 cr hcr) (mm_ro hR hRN hS) 1 rfl rfl d_Until_init_30 ?_
  refine mm_put (v := .int (nI rr)) hK hx hb hown lp_Until_24 hP hD hS 0 rfl rfl rfl (Nat.le_of_ble_eq_true rfl) d_Until_init_33 (fun H locs hP hD hS => ?_)
  have hP : va_P G.1 cls_all [(o, .inr (7, [.ref ln, .ref rn, .int (nI (lf ||| rf)), .int (nI rr), .int (bI (lc && rc)), .ref q12, .int 0, .ref iv, .ref q18, .int 0])), (q12, .inl (G.2.1 1, 24, .inr (.inl (fun _ => 0)))), (q18, .inl (G.2.1 1, 24, .inr (.inl (fun _ => 0))))] H := hP
  have hD : va_D A [(o, .inr (7, [.ref ln, .ref rn, .int (nI (lf ||| rf)), .int (nI rr), .int (bI (lc && rc)), .ref q12, .int 0, .ref iv, .ref q18, .int 0])), (q12, .inl (G.2.1 1, 24, .inr (.inl (fun _ => 0)))), (q18, .inl (G.2.1 1, 24, .inr (.inl (fun _ => 0))))] := hD
  exact mm_vrQ hx hb hr hk hS d_Until_init_36 ⟨_, _, hP, hD⟩
