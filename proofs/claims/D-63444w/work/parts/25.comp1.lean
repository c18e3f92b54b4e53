set_option maxHeartbeats 4000000 in
set_option maxRecDepth 100000 in
theorem c_Rec_init (l : Launch) (G : mm_G) (o : Nat) : Met l y_Rec_init [.code y_Rec_init b_Rec_init 1 none] { frames := 1, cells := 0, slots := 0, locals := 12 } (mm_Pre G [.ref o] (fun H => True)) (va_Sv (fun _ => True)) 0 0 (fun _ => False) := by
  refine mm_of (by decide) (Nat.le_of_ble_eq_true rfl) ?_
  intro p e s m below meth c ls hx hb hr hk hml hown hnm hK _ hl
  have hl : lv_has ls 1 [(0, .ref o)] := hl
  refine lv_aload_n hx hb d_Rec_init_0 rfl (lv_at hl 0 rfl) ?_
  refine W.objInit hx hb hown (hK.w kw_435) (hK.w kw_33) (hK.w kw_34) rfl (by rw [hml]; exact hl.1) rfl d_Rec_init_1 (Nat.le_of_ble_eq_true rfl) (Nat.le_of_ble_eq_true rfl) ?_
  refine W.eq (g2 := F0 m 4 ls []) rfl ?_
  exact mm_vrS hx hb hr hk d_Rec_init_4 trivial
set_option maxHeartbeats 4000000 in
set_option maxRecDepth 100000 in
theorem c_Interval_init (l : Launch) (G : mm_G) {A : Nat → Prop} (o : Nat) (lo hi : Int32) (hD : va_D A [(o, .inr (8, [.int 0, .int 0]))]) : Met l y_Interval_init [.code y_Interval_init b_Interval_init 3 none] { frames := 2, cells := 0, slots := 0, locals := 32 } (mm_Pre G [.ref o, .int lo, .int hi] (fun H => va_P G.1 cls_all [(o, .inr (8, [.int 0, .int 0]))] H)) (mm_Qv (fun H => va_P G.1 cls_all [(o, .inr (8, [.int lo, .int hi]))] H) A) 0 0 A := by
  refine mm_of (by decide) (Nat.le_of_ble_eq_true rfl) ?_
  intro p e s m below meth c ls hx hb hr hk hml hown hnm hK hP hl
  have hl : lv_has ls 3 [(0, .ref o), (1, .int lo), (2, .int hi)] := hl
  have hS : va_S A s.heap s.heap [] := va_S.rf
  refine lv_aload_n hx hb d_Interval_init_0 rfl (lv_at hl 0 rfl) ?_
  refine mm_sv (mm_runI hK ⟨hx, hb, hml, hown⟩ lk_Interval_3 (c_Rec_init l G o) ⟨rfl, rfl, by decide, by decide⟩ trivial rfl hl.1 rfl (Nat.le_of_ble_eq_true rfl) ⟨by decide, by decide⟩ d_Interval_init_1) (fun _ => ?_)
  refine lv_aload_n hx hb d_Interval_init_4 rfl (lv_at hl 0 rfl) ?_
  refine lv_iload_n hx hb d_Interval_init_5 rfl (lv_at hl 1 rfl) ?_
  refine mm_putF (v := .int lo) hK hx hb hown hnm lp_Interval_9 hP hD hS 0 rfl rfl rfl (Nat.le_of_ble_eq_true rfl) d_Interval_init_6 (fun H locs hP hD hS => ?_)
  have hP : va_P G.1 cls_all [(o, .inr (8, [.int lo, .int 0]))] H := hP
  have hD : va_D A [(o, .inr (8, [.int lo, .int 0]))] := hD
  refine lv_aload_n hx hb d_Interval_init_9 rfl (lv_at hl 0 rfl) ?_
  refine lv_iload_n hx hb d_Interval_init_10 rfl (lv_at hl 2 rfl) ?_
  refine mm_putF (v := .int hi) hK hx hb hown hnm lp_Interval_15 hP hD hS 0 rfl rfl rfl (Nat.le_of_ble_eq_true rfl) d_Interval_init_11 (fun H locs hP hD hS => ?_)
  have hP : va_P G.1 cls_all [(o, .inr (8, [.int lo, .int hi]))] H := hP
  have hD : va_D A [(o, .inr (8, [.int lo, .int hi]))] := hD
  exact mm_vrQ hx hb hr hk hS d_Interval_init_14 hP
set_option maxHeartbeats 4000000 in
set_option maxRecDepth 100000 in
theorem c_Interval_isGood (l : Launch) (G : mm_G) (o : Nat) (lo hi : Int32) (bd : Bool) : Met l y_Interval_isGood [.code y_Interval_isGood b_Interval_isGood 2 (some .boolean)] { frames := 0, cells := 0, slots := 0, locals := 0 } (mm_Pre G [.ref o, .int (bI bd)] (fun H => va_P G.1 cls_all [(o, .inr (8, [.int lo, .int hi]))] H)) (vp_Si (fun r => r = bI (ivB lo hi (!bd)))) 0 0 (fun _ => False) := by
  refine mm_of (by decide) (Nat.le_of_ble_eq_true rfl) ?_
  intro p e s m below meth c ls hx hb hr hk hml hown hnm hK hP hl
  have hl : lv_has ls 2 [(0, .ref o), (1, .int (bI bd))] := hl
  refine lv_aload_n hx hb d_Interval_isGood_0 rfl (lv_at hl 0 rfl) ?_
  refine mm_get (v := .int lo) hK hx hb hown lg_Interval_9 hP 0 rfl rfl d_Interval_isGood_1 ?_
  refine lv_if_lt hx hb d_Interval_isGood_4 (tgt := 55) (by decide) (fun c4 => ?_) (fun c4 => ?_)
  · rw [Int32.lt_iff_toInt_lt, Int32.toInt_zero] at c4
    refine lv_iconst hx hb d_Interval_isGood_55 ci_0 ?_
    exact mm_zrS false (by first | rfl | decide) hx hb hr hk d_Interval_isGood_56 (bI_f (fun ⟨a1, a2, a3⟩ => by rcases a3 with ⟨b1, b2⟩ | ⟨b1, b2⟩ <;> first | omega | (rw [c25] at b1; cases b1)))
  · rw [Int32.lt_iff_toInt_lt, Int32.toInt_zero] at c4
    refine lv_aload_n hx hb d_Interval_isGood_7 rfl (lv_at hl 0 rfl) ?_
    refine mm_get (v := .int lo) hK hx hb hown lg_Interval_9 hP 0 rfl rfl d_Interval_isGood_8 ?_
    refine lv_ldc (v := 1000000) hx hb hown (hK.w kw_447) d_Interval_isGood_11 ?_
    refine mm_ti (y := nI 1000000) (by decide) ?_
    refine lv_icmp_gt hx hb d_Interval_isGood_13 (tgt := 55) (by decide) (fun c13 => ?_) (fun c13 => ?_)
    · rw [Int32.lt_iff_toInt_lt, nI_toInt (n := 1000000) (by omega)] at c13
      refine lv_iconst hx hb d_Interval_isGood_55 ci_0 ?_
      exact mm_zrS false (by first | rfl | decide) hx hb hr hk d_Interval_isGood_56 (bI_f (fun ⟨a1, a2, a3⟩ => by rcases a3 with ⟨b1, b2⟩ | ⟨b1, b2⟩ <;> first | omega | (rw [c25] at b1; cases b1)))
    · rw [Int32.lt_iff_toInt_lt, nI_toInt (n := 1000000) (by omega)] at c13
      refine lv_aload_n hx hb d_Interval_isGood_16 rfl (lv_at hl 0 rfl) ?_
      refine mm_get (v := .int hi) hK hx hb hown lg_Interval_15 hP 0 rfl rfl d_Interval_isGood_17 ?_
      refine lv_iconst hx hb d_Interval_isGood_20 ci_m1 ?_
      refine lv_icmp_ne hx hb d_Interval_isGood_21 (tgt := 31) (by decide) (fun c21 => ?_) (fun c21 => ?_)
      · rw [i32_eqT, m1_toInt] at c21
        refine lv_aload_n hx hb d_Interval_isGood_31 rfl (lv_at hl 0 rfl) ?_
        refine mm_get (v := .int lo) hK hx hb hown lg_Interval_9 hP 0 rfl rfl d_Interval_isGood_32 ?_
        refine lv_aload_n hx hb d_Interval_isGood_35 rfl (lv_at hl 0 rfl) ?_
        refine mm_get (v := .int hi) hK hx hb hown lg_Interval_15 hP 0 rfl rfl d_Interval_isGood_36 ?_
        refine lv_icmp_gt hx hb d_Interval_isGood_39 (tgt := 55) (by decide) (fun c39 => ?_) (fun c39 => ?_)
        · rw [Int32.lt_iff_toInt_lt] at c39
          refine lv_iconst hx hb d_Interval_isGood_55 ci_0 ?_
          exact mm_zrS false (by first | rfl | decide) hx hb hr hk d_Interval_isGood_56 (bI_f (fun ⟨a1, a2, a3⟩ => by rcases a3 with ⟨b1, b2⟩ | ⟨b1, b2⟩ <;> first | omega | (rw [c25] at b1; cases b1)))
        · rw [Int32.lt_iff_toInt_lt] at c39
          refine lv_aload_n hx hb d_Interval_isGood_42 rfl (lv_at hl 0 rfl) ?_
          refine mm_get (v := .int hi) hK hx hb hown lg_Interval_15 hP 0 rfl rfl d_Interval_isGood_43 ?_
          refine lv_ldc (v := 1000000) hx hb hown (hK.w kw_447) d_Interval_isGood_46 ?_
          refine mm_ti (y := nI 1000000) (by decide) ?_
          refine lv_icmp_gt hx hb d_Interval_isGood_48 (tgt := 55) (by decide) (fun c48 => ?_) (fun c48 => ?_)
          · rw [Int32.lt_iff_toInt_lt, nI_toInt (n := 1000000) (by omega)] at c48
            refine lv_iconst hx hb d_Interval_isGood_55 ci_0 ?_
            exact mm_zrS false (by first | rfl | decide) hx hb hr hk d_Interval_isGood_56 (bI_f (fun ⟨a1, a2, a3⟩ => by rcases a3 with ⟨b1, b2⟩ | ⟨b1, b2⟩ <;> first | omega | (rw [c25] at b1; cases b1)))
          · rw [Int32.lt_iff_toInt_lt, nI_toInt (n := 1000000) (by omega)] at c48
            refine lv_iconst hx hb d_Interval_isGood_51 ci_1 ?_
            refine lv_goto hx hb d_Interval_isGood_52 (tgt := 56) (by decide) ?_
            exact mm_zrS true (by first | rfl | decide) hx hb hr hk d_Interval_isGood_56 (bI_t ⟨by omega, by omega, by first | exact Or.inl ⟨by omega, by omega⟩ | exact Or.inr ⟨by rw [c25]; rfl, c21⟩⟩)
      · rw [i32_eqT, m1_toInt] at c21
        refine lv_iload_n hx hb d_Interval_isGood_24 rfl (lv_at hl 1 rfl) ?_
        refine mm_ifneB hx hb d_Interval_isGood_25 (tgt := 55) (by decide) (fun c25 => ?_) (fun c25 => ?_)
        · refine lv_iconst hx hb d_Interval_isGood_55 ci_0 ?_
          exact mm_zrS false (by first | rfl | decide) hx hb hr hk d_Interval_isGood_56 (bI_f (fun ⟨a1, a2, a3⟩ => by rcases a3 with ⟨b1, b2⟩ | ⟨b1, b2⟩ <;> first | omega | (rw [c25] at b1; cases b1)))
        · refine lv_goto hx hb d_Interval_isGood_28 (tgt := 51) (by decide) ?_
          refine lv_iconst hx hb d_Interval_isGood_51 ci_1 ?_
          refine lv_goto hx hb d_Interval_isGood_52 (tgt := 56) (by decide) ?_
          exact mm_zrS true (by first | rfl | decide) hx hb hr hk d_Interval_isGood_56 (bI_t ⟨by omega, by omega, by first | exact Or.inl ⟨by omega, by omega⟩ | exact Or.inr ⟨by rw [c25]; rfl, c21⟩⟩)
set_option maxHeartbeats 4000000 in
set_option maxRecDepth 100000 in
theorem c_Interval_has (l : Launch) (G : mm_G) (o lo e0 d : Nat) (h1 : lo < 2 ^ 30) (h2 : e0 < 2 ^ 30) (h3 : d < 2 ^ 30) : Met l y_Interval_has [.code y_Interval_has b_Interval_has 2 (some .boolean)] { frames := 0, cells := 0, slots := 0, locals := 0 } (mm_Pre G [.ref o, .int (nI d)] (fun H => va_P G.1 cls_all [(o, .inr (8, [.int (nI lo), .int (nI e0 - 1)]))] H)) (vp_Si (fun r => r = bI (liB lo e0 d))) 0 0 (fun _ => False) := by
  refine mm_of (by decide) (Nat.le_of_ble_eq_true rfl) ?_
  intro p e s m below meth c ls hx hb hr hk hml hown hnm hK hP hl
  have hl : lv_has ls 2 [(0, .ref o), (1, .int (nI d))] := hl
  refine lv_iload_n hx hb d_Interval_has_0 rfl (lv_at hl 1 rfl) ?_
  refine lv_aload_n hx hb d_Interval_has_1 rfl (lv_at hl 0 rfl) ?_
  refine mm_get (v := .int (nI lo)) hK hx hb hown lg_Interval_9 hP 0 rfl rfl d_Interval_has_2 ?_
  refine lv_icmp_lt hx hb d_Interval_has_5 (tgt := 28) (by decide) (fun c5 => ?_) (fun c5 => ?_)
  · have c5 : d < lo := nb_ltt (by omega) (by omega) c5
    refine lv_iconst hx hb d_Interval_has_28 ci_0 ?_
    exact mm_zrS false (by first | rfl | decide) hx hb hr hk d_Interval_has_29 (bI_f (by omega))
  · have c5 : d ≥ lo := nb_ltf (by omega) (by omega) c5
    refine lv_aload_n hx hb d_Interval_has_8 rfl (lv_at hl 0 rfl) ?_
    refine mm_get (v := .int (nI e0 - 1)) hK hx hb hown lg_Interval_15 hP 0 rfl rfl d_Interval_has_9 ?_
    refine lv_iconst hx hb d_Interval_has_12 ci_m1 ?_
    refine lv_icmp_eq hx hb d_Interval_has_13 (tgt := 24) (by decide) (fun c13 => ?_) (fun c13 => ?_)
    · rw [i32_eqT, eI_toInt (n := e0) (by omega), m1_toInt] at c13
      refine lv_iconst hx hb d_Interval_has_24 ci_1 ?_
      refine lv_goto hx hb d_Interval_has_25 (tgt := 29) (by decide) ?_
      exact mm_zrS true (by first | rfl | decide) hx hb hr hk d_Interval_has_29 (bI_t (by omega))
    · rw [i32_eqT, eI_toInt (n := e0) (by omega), m1_toInt] at c13
      refine lv_iload_n hx hb d_Interval_has_16 rfl (lv_at hl 1 rfl) ?_
      refine lv_aload_n hx hb d_Interval_has_17 rfl (lv_at hl 0 rfl) ?_
      refine mm_get (v := .int (nI e0 - 1)) hK hx hb hown lg_Interval_15 hP 0 rfl rfl d_Interval_has_18 ?_
      refine lv_icmp_gt hx hb d_Interval_has_21 (tgt := 28) (by decide) (fun c21 => ?_) (fun c21 => ?_)
      · rw [Int32.lt_iff_toInt_lt, nI_toInt (n := d) (by omega), eI_toInt (n := e0) (by omega)] at c21
        refine lv_iconst hx hb d_Interval_has_28 ci_0 ?_
        exact mm_zrS false (by first | rfl | decide) hx hb hr hk d_Interval_has_29 (bI_f (by omega))
      · rw [Int32.lt_iff_toInt_lt, nI_toInt (n := d) (by omega), eI_toInt (n := e0) (by omega)] at c21
        refine lv_iconst hx hb d_Interval_has_24 ci_1 ?_
        refine lv_goto hx hb d_Interval_has_25 (tgt := 29) (by decide) ?_
        exact mm_zrS true (by first | rfl | decide) hx hb hr hk d_Interval_has_29 (bI_t (by omega))
set_option maxHeartbeats 4000000 in
set_option maxRecDepth 100000 in
theorem c_Interval_hi (l : Launch) (G : mm_G) (o lo e0 : Nat) : Met l y_Interval_hi [.code y_Interval_hi b_Interval_hi 1 (some .int)] { frames := 0, cells := 0, slots := 0, locals := 0 } (mm_Pre G [.ref o] (fun H => va_P G.1 cls_all [(o, .inr (8, [.int (nI lo), .int (nI e0 - 1)]))] H)) (vp_Si (fun r => r = nI e0 - 1)) 0 0 (fun _ => False) := by
  refine mm_of (by decide) (Nat.le_of_ble_eq_true rfl) ?_
  intro p e s m below meth c ls hx hb hr hk hml hown hnm hK hP hl
  have hl : lv_has ls 1 [(0, .ref o)] := hl
  refine lv_aload_n hx hb d_Interval_hi_0 rfl (lv_at hl 0 rfl) ?_
  refine mm_get (v := .int (nI e0 - 1)) hK hx hb hown lg_Interval_15 hP 0 rfl rfl d_Interval_hi_1 ?_
  exact mm_irS hx hb hr hk d_Interval_hi_4 rfl
set_option maxHeartbeats 4000000 in
set_option maxRecDepth 100000 in
theorem c_Log_init (l : Launch) (G : mm_G) {A : Nat → Prop} (o : Nat) (hD : va_D A [(o, .inr (9, [.null, .int 0, .null]))]) : Met l y_Log_init [.code y_Log_init b_Log_init 1 none] { frames := 1, cells := 2, slots := 27, locals := 12 } (mm_Pre G [.ref o] (fun H => va_P G.1 cls_all [(o, .inr (9, [.null, .int 0, .null]))] H ∧ (∀ q, H.size ≤ q → A q))) (mm_Qv (fun H => ∃ ta pa0, va_P G.1 cls_all [(o, .inr (9, [.ref ta, .int (nI 0), .ref pa0])), (ta, .inl (G.2.1 0, 24, .inl (nA (fun _ => 0)))), (pa0, .inl (G.2.1 2, 3, .inl (nA (fun _ => 0))))] H ∧ va_D A [(o, .inr (9, [.ref ta, .int (nI 0), .ref pa0])), (ta, .inl (G.2.1 0, 24, .inl (nA (fun _ => 0)))), (pa0, .inl (G.2.1 2, 3, .inl (nA (fun _ => 0))))]) A) 2 27 A := by
  refine mm_of (by decide) (Nat.le_of_ble_eq_true rfl) ?_
  intro p e s m below meth c ls hx hb hr hk hml hown hnm hK h0 hl
  have hl : lv_has ls 1 [(0, .ref o)] := hl
  obtain ⟨hP, hA⟩ := h0
  have hS : va_S A s.heap s.heap [] := va_S.rf
  refine lv_aload_n hx hb d_Log_init_0 rfl (lv_at hl 0 rfl) ?_
  refine W.objInit hx hb hown (hK.w kw_69) (hK.w kw_33) (hK.w kw_34) rfl (by rw [hml]; exact hl.1) rfl d_Log_init_1 (Nat.le_of_ble_eq_true rfl) (Nat.le_of_ble_eq_true rfl) ?_
  refine W.eq (g2 := F0 m 4 ls []) rfl ?_
  refine lv_aload_n hx hb d_Log_init_4 rfl (lv_at hl 0 rfl) ?_
  refine lv_bipush (v := nI 24) hx hb d_Log_init_5 (by decide) ?_
  refine mm_newa (atype := .int) (a0 := (24, .inl (nA (fun _ => 0)))) hK hx hb kw_86 rfl 0 rfl hP hD hS hA (z_int 24) (by decide) (by decide) (by decide) (by decide) d_Log_init_7 (fun q7 H hP hD hS => ?_)
  have hP : va_P G.1 cls_all [(o, .inr (9, [.null, .int 0, .null])), (q7, .inl (G.2.1 0, 24, .inl (nA (fun _ => 0))))] H := hP
  have hD : va_D A [(o, .inr (9, [.null, .int 0, .null])), (q7, .inl (G.2.1 0, 24, .inl (nA (fun _ => 0))))] := hD
  refine W.widen (k := 1) (n := 24) (by decide) (by decide) ?_
  refine mm_putF (v := .ref q7) hK hx hb hown hnm lp_Log_7 hP hD hS 0 rfl rfl rfl (Nat.le_of_ble_eq_true rfl) d_Log_init_9 (fun H locs hP hD hS => ?_)
  have hP : va_P G.1 cls_all [(o, .inr (9, [.ref q7, .int 0, .null])), (q7, .inl (G.2.1 0, 24, .inl (nA (fun _ => 0))))] H := hP
  have hD : va_D A [(o, .inr (9, [.ref q7, .int 0, .null])), (q7, .inl (G.2.1 0, 24, .inl (nA (fun _ => 0))))] := hD
  refine lv_aload_n hx hb d_Log_init_12 rfl (lv_at hl 0 rfl) ?_
  refine lv_iconst hx hb d_Log_init_13 ci_3 ?_
  refine mm_newa (atype := .char) (a0 := (3, .inl (nA (fun _ => 0)))) hK hx hb kw_87 rfl 2 rfl hP hD hS hA (z_char 3) (by decide) (by decide) (by decide) (by decide) d_Log_init_14 (fun q14 H hP hD hS => ?_)
  have hP : va_P G.1 cls_all [(o, .inr (9, [.ref q7, .int 0, .null])), (q7, .inl (G.2.1 0, 24, .inl (nA (fun _ => 0)))), (q14, .inl (G.2.1 2, 3, .inl (nA (fun _ => 0))))] H := hP
  have hD : va_D A [(o, .inr (9, [.ref q7, .int 0, .null])), (q7, .inl (G.2.1 0, 24, .inl (nA (fun _ => 0)))), (q14, .inl (G.2.1 2, 3, .inl (nA (fun _ => 0))))] := hD
  refine W.widen (k := 2) (n := 27) (by decide) (by decide) ?_
  refine mm_putF (v := .ref q14) hK hx hb hown hnm lp_Log_13 hP hD hS 0 rfl rfl rfl (Nat.le_of_ble_eq_true rfl) d_Log_init_16 (fun H locs hP hD hS => ?_)
  have hP : va_P G.1 cls_all [(o, .inr (9, [.ref q7, .int 0, .ref q14])), (q7, .inl (G.2.1 0, 24, .inl (nA (fun _ => 0)))), (q14, .inl (G.2.1 2, 3, .inl (nA (fun _ => 0))))] H := hP
  have hD : va_D A [(o, .inr (9, [.ref q7, .int 0, .ref q14])), (q7, .inl (G.2.1 0, 24, .inl (nA (fun _ => 0)))), (q14, .inl (G.2.1 2, 3, .inl (nA (fun _ => 0))))] := hD
  exact mm_vrQ hx hb hr hk hS d_Log_init_19 ⟨_, _, hP, hD⟩
set_option maxHeartbeats 4000000 in
set_option maxRecDepth 100000 in
theorem c_Log_forget (l : Launch) (G : mm_G) {A : Nat → Prop} (o ta pa0 np : Nat) (tm pv : Nat → Nat) (hD : va_D A [(o, .inr (9, [.ref ta, .int (nI np), .ref pa0])), (ta, .inl (G.2.1 0, 24, .inl (nA tm))), (pa0, .inl (G.2.1 2, 3, .inl (nA pv)))]) : Met l y_Log_forget [.code y_Log_forget b_Log_forget 2 none] { frames := 0, cells := 0, slots := 0, locals := 0 } (mm_Pre G [.ref o] (fun H => va_P G.1 cls_all [(o, .inr (9, [.ref ta, .int (nI np), .ref pa0])), (ta, .inl (G.2.1 0, 24, .inl (nA tm))), (pa0, .inl (G.2.1 2, 3, .inl (nA pv)))] H)) (mm_Qv (fun H => ∃ pv9, (∀ j, j < 3 → pv9 j = 0) ∧ va_P G.1 cls_all [(o, .inr (9, [.ref ta, .int (nI np), .ref pa0])), (ta, .inl (G.2.1 0, 24, .inl (nA tm))), (pa0, .inl (G.2.1 2, 3, .inl (nA pv9)))] H) A) 0 0 A := by
  refine mm_of (by decide) (Nat.le_of_ble_eq_true rfl) ?_
  intro p e s m below meth c ls hx hb hr hk hml hown hnm hK hP hl
  have hl : lv_has ls 2 [(0, .ref o)] := hl
  have hS : va_S A s.heap s.heap [] := va_S.rf
  refine lv_iconst hx hb d_Log_forget_0 ci_0 ?_
  refine lv_istore_n (lv' := [(1, .int (nI 0)), (0, .ref o)]) hx hb d_Log_forget_1 rfl hl (by decide) rfl (fun ls hl => ?_)
  refine mm_loop (σ := (Nat) × (Nat → Nat)) (fun x ls H locs => match x with | (k, g) => lv_has ls 2 [(0, .ref o), (1, .int (nI k))] ∧ va_P G.1 cls_all [(o, .inr (9, [.ref ta, .int (nI np), .ref pa0])), (ta, .inl (G.2.1 0, 24, .inl (nA tm))), (pa0, .inl (G.2.1 2, 3, .inl (nA g)))] H ∧ va_D A [(o, .inr (9, [.ref ta, .int (nI np), .ref pa0])), (ta, .inl (G.2.1 0, 24, .inl (nA tm))), (pa0, .inl (G.2.1 2, 3, .inl (nA g)))] ∧ va_S A s.heap H locs ∧ (k ≤ 3) ∧ (∀ j, j < k → g j = 0)) (fun x => match x with | (k, g) => 3 - k) ?_ (0, pv) _ _ _ ⟨(lv_sub hl [1, 0] rfl), hP, hD, hS, (by omega), (fun j hj => absurd hj (Nat.not_lt_zero _))⟩
  rintro ⟨k, g⟩ ls H locs ⟨hl, hP, hD, hS, hk9, hg⟩ ih2
  refine lv_iload_n hx hb d_Log_forget_2 rfl (lv_at hl 1 rfl) ?_
  refine lv_iconst hx hb d_Log_forget_3 ci_3 ?_
  refine lv_icmp_ge hx hb d_Log_forget_4 (tgt := 20) (by decide) (fun c4 => ?_) (fun c4 => ?_)
  · have c4 : k ≥ 3 := nb_get (by omega) (by omega) c4
    exact mm_vrQ hx hb hr hk hS d_Log_forget_20 ⟨_, fun j hj => hg j (by omega), hP⟩
  · have c4 : k < 3 := nb_gef (by omega) (by omega) c4
    refine lv_aload_n hx hb d_Log_forget_7 rfl (lv_at hl 0 rfl) ?_
    refine mm_get (v := .ref pa0) hK hx hb hown lg_Log_13 hP 0 rfl rfl d_Log_forget_8 ?_
    refine lv_iload_n hx hb d_Log_forget_11 rfl (lv_at hl 1 rfl) ?_
    refine lv_iconst hx hb d_Log_forget_12 ci_0 ?_
    refine mm_castN (x := 0) hK hx hb hP hD hS 2 rfl (by decide) (i := k) (by omega) (by decide) d_Log_forget_13 (fun H locs hP hD hS => ?_)
    have hP : va_P G.1 cls_all [(o, .inr (9, [.ref ta, .int (nI np), .ref pa0])), (ta, .inl (G.2.1 0, 24, .inl (nA tm))), (pa0, .inl (G.2.1 2, 3, .inl (nA (va_up g k 0))))] H := hP
    have hD : va_D A [(o, .inr (9, [.ref ta, .int (nI np), .ref pa0])), (ta, .inl (G.2.1 0, 24, .inl (nA tm))), (pa0, .inl (G.2.1 2, 3, .inl (nA (va_up g k 0))))] := hD
    refine lv_iinc (k := 1) (v := nI (k + 1)) (lv' := [(1, .int (nI (k + 1))), (0, .ref o)]) hx hb d_Log_forget_14 hl rfl (inc1 _) (by decide) rfl (fun ls hl => ?_)
    refine lv_goto hx hb d_Log_forget_17 (tgt := 2) (by decide) ?_
    exact ih2 ((k + 1), (va_up g k 0)) _ _ _ ⟨(lv_sub hl [1, 0] rfl), hP, hD, hS, (by omega), (up_ext (F := fun _ => 0) hg rfl)⟩ (by (try dsimp only); omega)
set_option maxHeartbeats 4000000 in
set_option maxRecDepth 100000 in
theorem c_Log_empty (l : Launch) (G : mm_G) {A : Nat → Prop} (o ta pa0 np : Nat) (tm pv : Nat → Nat) (hD : va_D A [(o, .inr (9, [.ref ta, .int (nI np), .ref pa0])), (ta, .inl (G.2.1 0, 24, .inl (nA tm))), (pa0, .inl (G.2.1 2, 3, .inl (nA pv)))]) : Met l y_Log_empty [.code y_Log_empty b_Log_empty 1 none] { frames := 1, cells := 0, slots := 0, locals := 21 } (mm_Pre G [.ref o] (fun H => va_P G.1 cls_all [(o, .inr (9, [.ref ta, .int (nI np), .ref pa0])), (ta, .inl (G.2.1 0, 24, .inl (nA tm))), (pa0, .inl (G.2.1 2, 3, .inl (nA pv)))] H)) (mm_Qv (fun H => ∃ pv9, (∀ j, j < 3 → pv9 j = 0) ∧ va_P G.1 cls_all [(o, .inr (9, [.ref ta, .int (nI 0), .ref pa0])), (ta, .inl (G.2.1 0, 24, .inl (nA tm))), (pa0, .inl (G.2.1 2, 3, .inl (nA pv9)))] H) A) 0 0 A := by
  refine mm_of (by decide) (Nat.le_of_ble_eq_true rfl) ?_
  intro p e s m below meth c ls hx hb hr hk hml hown hnm hK hP hl
  have hl : lv_has ls 1 [(0, .ref o)] := hl
  have hS : va_S A s.heap s.heap [] := va_S.rf
  refine lv_aload_n hx hb d_Log_empty_0 rfl (lv_at hl 0 rfl) ?_
  refine lv_iconst hx hb d_Log_empty_1 ci_0 ?_
  refine mm_put (v := .int (nI 0)) hK hx hb hown lp_Log_17 hP hD hS 0 rfl rfl rfl (Nat.le_of_ble_eq_true rfl) d_Log_empty_2 (fun H locs hP hD hS => ?_)
  have hP : va_P G.1 cls_all [(o, .inr (9, [.ref ta, .int (nI 0), .ref pa0])), (ta, .inl (G.2.1 0, 24, .inl (nA tm))), (pa0, .inl (G.2.1 2, 3, .inl (nA pv)))] H := hP
  have hD : va_D A [(o, .inr (9, [.ref ta, .int (nI 0), .ref pa0])), (ta, .inl (G.2.1 0, 24, .inl (nA tm))), (pa0, .inl (G.2.1 2, 3, .inl (nA pv)))] := hD
  refine lv_aload_n hx hb d_Log_empty_5 rfl (lv_at hl 0 rfl) ?_
  refine mm_qv (mm_runV hK ⟨hx, hb, hml, hown⟩ lk_Log_21 (c_Log_forget l G o ta pa0 0 tm pv hD) ⟨rfl, rfl, by decide, by decide⟩ (mm_rc hK hP 0 rfl rfl) hP rfl hl.1 rfl (Nat.le_of_ble_eq_true rfl) ⟨by decide, by decide⟩ d_Log_empty_6) hS (fun q h => h) (fun H locs e6 hz1 hk1 hS => ?_)
  obtain ⟨pv6, hpv, hP⟩ := e6
  have hD : va_D A [(o, .inr (9, [.ref ta, .int (nI 0), .ref pa0])), (ta, .inl (G.2.1 0, 24, .inl (nA tm))), (pa0, .inl (G.2.1 2, 3, .inl (nA pv6)))] := mD hD rfl
  exact mm_vrQ hx hb hr hk hS d_Log_empty_9 ⟨_, hpv, hP⟩
set_option maxHeartbeats 4000000 in
set_option maxRecDepth 100000 in
theorem c_Log_between (l : Launch) (G : mm_G) (o ta pa0 np : Nat) (tm pv : Nat → Nat) (a b : Nat) (ha : a < 24) (hb9 : b < 24) (hab : tm a ≤ tm b) : Met l y_Log_between [.code y_Log_between b_Log_between 3 (some .int)] { frames := 0, cells := 0, slots := 0, locals := 0 } (mm_Pre G [.ref o, .int (nI a), .int (nI b)] (fun H => va_P G.1 cls_all [(o, .inr (9, [.ref ta, .int (nI np), .ref pa0])), (ta, .inl (G.2.1 0, 24, .inl (nA tm)))] H)) (vp_Si (fun r => r = nI (tm b - tm a))) 0 0 (fun _ => False) := by
  refine mm_of (by decide) (Nat.le_of_ble_eq_true rfl) ?_
  intro p e s m below meth c ls hx hb hr hk hml hown hnm hK hP hl
  have hl : lv_has ls 3 [(0, .ref o), (1, .int (nI a)), (2, .int (nI b))] := hl
  refine lv_aload_n hx hb d_Log_between_0 rfl (lv_at hl 0 rfl) ?_
  refine mm_get (v := .ref ta) hK hx hb hown lg_Log_7 hP 0 rfl rfl d_Log_between_1 ?_
  refine lv_iload_n hx hb d_Log_between_4 rfl (lv_at hl 2 rfl) ?_
  refine mm_iald hK hx hb hP 1 rfl (by decide) (i := b) (by omega) d_Log_between_5 ?_
  refine lv_aload_n hx hb d_Log_between_6 rfl (lv_at hl 0 rfl) ?_
  refine mm_get (v := .ref ta) hK hx hb hown lg_Log_7 hP 0 rfl rfl d_Log_between_7 ?_
  refine lv_iload_n hx hb d_Log_between_10 rfl (lv_at hl 1 rfl) ?_
  refine mm_iald hK hx hb hP 1 rfl (by decide) (i := a) (by omega) d_Log_between_11 ?_
  refine lv_isub hx hb d_Log_between_12 ?_
  refine mm_ti (y := nI (tm b - tm a)) (pk_sub hab) ?_
  exact mm_irS hx hb hr hk d_Log_between_13 rfl
set_option maxHeartbeats 4000000 in
set_option maxRecDepth 100000 in
theorem c_Mon_isTerm (l : Launch) (G : mm_G) (t : Int32) : Met l y_Mon_isTerm [.code y_Mon_isTerm b_Mon_isTerm 1 (some .boolean)] { frames := 0, cells := 0, slots := 0, locals := 0 } (mm_Pre G [.int t] (fun H => True)) (vp_Si (fun r => r = bI (tmB t))) 0 0 (fun _ => False) := by
  refine mm_of (by decide) (Nat.le_of_ble_eq_true rfl) ?_
  intro p e s m below meth c ls hx hb hr hk hml hown hnm hK _ hl
  have hl : lv_has ls 1 [(0, .int t)] := hl
  refine lv_iload_n hx hb d_Mon_isTerm_0 rfl (lv_at hl 0 rfl) ?_
  refine lv_if_lt hx hb d_Mon_isTerm_1 (tgt := 19) (by decide) (fun c1 => ?_) (fun c1 => ?_)
  · rw [Int32.lt_iff_toInt_lt, Int32.toInt_zero] at c1
    refine lv_iconst hx hb d_Mon_isTerm_19 ci_0 ?_
    exact mm_zrS false (by first | rfl | decide) hx hb hr hk d_Mon_isTerm_20 (bI_f (by omega))
  · rw [Int32.lt_iff_toInt_lt, Int32.toInt_zero] at c1
    refine lv_iload_n hx hb d_Mon_isTerm_4 rfl (lv_at hl 0 rfl) ?_
    refine lv_bipush (v := nI 7) hx hb d_Mon_isTerm_5 (by decide) ?_
    refine lv_icmp_gt hx hb d_Mon_isTerm_7 (tgt := 19) (by decide) (fun c7 => ?_) (fun c7 => ?_)
    · rw [Int32.lt_iff_toInt_lt, nI_toInt (n := 7) (by omega)] at c7
      refine lv_iconst hx hb d_Mon_isTerm_19 ci_0 ?_
      exact mm_zrS false (by first | rfl | decide) hx hb hr hk d_Mon_isTerm_20 (bI_f (by omega))
    · rw [Int32.lt_iff_toInt_lt, nI_toInt (n := 7) (by omega)] at c7
      refine lv_iload_n hx hb d_Mon_isTerm_10 rfl (lv_at hl 0 rfl) ?_
      refine lv_iconst hx hb d_Mon_isTerm_11 ci_3 ?_
      refine lv_icmp_eq hx hb d_Mon_isTerm_12 (tgt := 19) (by decide) (fun c12 => ?_) (fun c12 => ?_)
      · rw [i32_eqT, nI_toInt (n := 3) (by omega)] at c12
        refine lv_iconst hx hb d_Mon_isTerm_19 ci_0 ?_
        exact mm_zrS false (by first | rfl | decide) hx hb hr hk d_Mon_isTerm_20 (bI_f (by omega))
      · rw [i32_eqT, nI_toInt (n := 3) (by omega)] at c12
        refine lv_iconst hx hb d_Mon_isTerm_15 ci_1 ?_
        refine lv_goto hx hb d_Mon_isTerm_16 (tgt := 20) (by decide) ?_
        exact mm_zrS true (by first | rfl | decide) hx hb hr hk d_Mon_isTerm_20 (bI_t (by omega))
set_option maxHeartbeats 4000000 in
set_option maxRecDepth 100000 in
theorem c_Mon_variables (l : Launch) (G : mm_G) (t : Nat) (ht : t < 8) : Met l y_Mon_variables [.code y_Mon_variables b_Mon_variables 1 (some .int)] { frames := 0, cells := 0, slots := 0, locals := 0 } (mm_Pre G [.int (nI t)] (fun H => True)) (vp_Si (fun r => r = nI (vrN t))) 0 0 (fun _ => False) := by
  refine mm_of (by decide) (Nat.le_of_ble_eq_true rfl) ?_
  intro p e s m below meth c ls hx hb hr hk hml hown hnm hK _ hl
  have hl : lv_has ls 1 [(0, .int (nI t))] := hl
  refine lv_iload_n hx hb d_Mon_variables_0 rfl (lv_at hl 0 rfl) ?_
  refine lv_iconst hx hb d_Mon_variables_1 ci_3 ?_
  refine lv_icmp_ge hx hb d_Mon_variables_2 (tgt := 11) (by decide) (fun c2 => ?_) (fun c2 => ?_)
  · have c2 : t ≥ 3 := nb_get (by omega) (by omega) c2
    refine lv_iconst hx hb d_Mon_variables_11 ci_0 ?_
    exact mm_irS hx hb hr hk d_Mon_variables_12 (by rw [show vrN t = 0 from if_neg (by omega)])
  · have c2 : t < 3 := nb_gef (by omega) (by omega) c2
    refine lv_iconst hx hb d_Mon_variables_5 ci_1 ?_
    refine lv_iload_n hx hb d_Mon_variables_6 rfl (lv_at hl 0 rfl) ?_
    refine lv_ishl hx hb d_Mon_variables_7 ?_
    refine lv_goto hx hb d_Mon_variables_8 (tgt := 12) (by decide) ?_
    exact mm_irS hx hb hr hk d_Mon_variables_12 (by rw [show vrN t = 2 ^ t from if_pos (by omega)]; exact vr_lem t (by omega))
set_option maxHeartbeats 4000000 in
set_option maxRecDepth 100000 in
theorem c_Mon_where (l : Launch) (G : mm_G) {A : Nat → Prop} (Z : Nat × Nat) (t v : Nat) (ht : t < 8) (h3 : t ≠ 3) (hv : v < 4) : Met l y_Mon_where [.code y_Mon_where b_Mon_where 2 (some .long)] { frames := 0, cells := 0, slots := 0, locals := 0 } (mn_Pre G A Z [.int (nI t), .int (nI v)] (fun H => True)) (vp_Sl (fun r => r = whL t v)) 0 0 (fun _ => False) := by
  refine mn_of (by decide) (Nat.le_of_ble_eq_true rfl) ?_
  intro p e s m below meth c ls hx hb hr hk hml hown hnm hK hT _ hl
  have hl : lv_has ls 2 [(0, .int (nI t)), (1, .int (nI v))] := hl
  have hS : va_S A s.heap s.heap [] := va_S.rf
  refine lv_iload_n hx hb d_Mon_where_0 rfl (lv_at hl 0 rfl) ?_
  refine lv_iconst hx hb d_Mon_where_1 ci_3 ?_
  refine lv_icmp_le hx hb d_Mon_where_2 (tgt := 20) (by decide) (fun c2 => ?_) (fun c2 => ?_)
  · have c2 : t ≤ 3 := nb_let (by omega) (by omega) c2
    refine va_gets hx hb hT.2.2.1 hS hown (hK.w kw_331) (fun _ h => h) d_Mon_where_20 ?_
    refine lv_iload_n hx hb d_Mon_where_23 rfl (lv_at hl 0 rfl) ?_
    refine va_tl (v := .long (zeF t)) hx hb hT.2.2.2 hS (vp_in_nI (n := t) (by omega) (by decide)) (by rw [nI_clamp (by omega)]) d_Mon_where_24 ?_
    refine lv_iload_n hx hb d_Mon_where_25 rfl (lv_at hl 1 rfl) ?_
    refine lv_iconst hx hb d_Mon_where_26 ci_2 ?_
    refine lv_iload_n hx hb d_Mon_where_27 rfl (lv_at hl 0 rfl) ?_
    refine lv_imul hx hb d_Mon_where_28 ?_
    refine mm_ti (pk_mul _ _) ?_
    refine lv_ishl hx hb d_Mon_where_29 ?_
    refine lv_lshl (v := (zeF t) <<< (((nI v) <<< ((nI (2 * t)) &&& 31)).toInt64 &&& 63)) hx hb d_Mon_where_30 rfl ?_
    exact mm_lrS hx hb hr hk d_Mon_where_31 (by unfold whL; rw [if_neg (by omega)])
  · have c2 : t > 3 := nb_lef (by omega) (by omega) c2
    refine lv_iload_n hx hb d_Mon_where_5 rfl (lv_at hl 0 rfl) ?_
    refine lv_iconst hx hb d_Mon_where_6 ci_4 ?_
    refine lv_isub hx hb d_Mon_where_7 ?_
    refine mm_ti (y := nI (t - 4)) (pk_sub (by omega)) ?_
    refine lv_iload_n hx hb d_Mon_where_8 rfl (lv_at hl 1 rfl) ?_
    refine lv_icmp_ne hx hb d_Mon_where_9 (tgt := 18) (by decide) (fun c9 => ?_) (fun c9 => ?_)
    · have c9 : t - 4 ≠ v := nb_net (by omega) (by omega) c9
      refine lv_lconst (v := 0) hx hb d_Mon_where_18 (by decide) ?_
      exact mm_lrS hx hb hr hk d_Mon_where_19 (by unfold whL; rw [if_pos (by omega), if_neg c9])
    · have c9 : t - 4 = v := nb_nef (by omega) (by omega) c9
      refine lv_ldc2 hx hb hown (hK.w kw_330) d_Mon_where_12 ?_
      refine lv_goto hx hb d_Mon_where_15 (tgt := 19) (by decide) ?_
      exact mm_lrS hx hb hr hk d_Mon_where_19 (by unfold whL; rw [if_pos (by omega), if_pos c9])
set_option maxHeartbeats 4000000 in
set_option maxRecDepth 100000 in
theorem c_Exists_any (l : Launch) (G : mm_G) {A : Nat → Prop} (Z : Nat × Nat) (o : Nat) (v0 v1 v2 v3 v4 v5 v6 : Value) (vr : Nat) (x : Int64) (hv : vr ≤ 2) : Met l y_Exists_any [.code y_Exists_any b_Exists_any 6 (some .long)] { frames := 0, cells := 0, slots := 0, locals := 0 } (mn_Pre G A Z [.ref o, .long x] (fun H => va_P G.1 cls_all [(o, .inr (4, [v0, v1, v2, v3, v4, v5, v6, .int (nI vr)]))] H)) (vp_Sl (fun r => r = anV vr x)) 0 0 (fun _ => False) := by
  refine mn_of (by decide) (Nat.le_of_ble_eq_true rfl) ?_
  intro p e s m below meth c ls hx hb hr hk hml hown hnm hK hT hP hl
  have hl : lv_has ls 6 [(0, .ref o), (1, .long x)] := hl
  have hS : va_S A s.heap s.heap [] := va_S.rf
  refine lv_iconst hx hb d_Exists_any_0 ci_1 ?_
  refine lv_iconst hx hb d_Exists_any_1 ci_2 ?_
  refine lv_aload_n hx hb d_Exists_any_2 rfl (lv_at hl 0 rfl) ?_
  refine mm_get (v := .int (nI vr)) hK hx hb hown lg_Exists_11 hP 0 rfl rfl d_Exists_any_3 ?_
  refine lv_imul hx hb d_Exists_any_6 ?_
  refine mm_ti (pk_mul _ _) ?_
  refine lv_ishl hx hb d_Exists_any_7 ?_
  refine lv_istore_n (lv' := [(3, .int ((nI 1) <<< ((nI (2 * vr)) &&& 31))), (0, .ref o), (1, .long x)]) hx hb d_Exists_any_8 rfl hl (by decide) rfl (fun ls hl => ?_)
  refine lv_lload_n hx hb d_Exists_any_9 rfl (lv_at hl 2 rfl) ?_
  refine lv_lload_n hx hb d_Exists_any_10 rfl (lv_at hl 2 rfl) ?_
  refine lv_iload_n hx hb d_Exists_any_11 rfl (lv_at hl 0 rfl) ?_
  refine lv_lushr (v := (x.toUInt64 >>> (((nI 1) <<< ((nI (2 * vr)) &&& 31)).toInt64.toUInt64 &&& Int64.toUInt64 63)).toInt64) hx hb d_Exists_any_12 rfl ?_
  refine lv_lor hx hb d_Exists_any_13 ?_
  refine lv_lload_n hx hb d_Exists_any_14 rfl (lv_at hl 2 rfl) ?_
  refine lv_iconst hx hb d_Exists_any_15 ci_2 ?_
  refine lv_iload_n hx hb d_Exists_any_16 rfl (lv_at hl 0 rfl) ?_
  refine lv_imul hx hb d_Exists_any_17 ?_
  refine lv_lushr (v := (x.toUInt64 >>> (((nI 2) * ((nI 1) <<< ((nI (2 * vr)) &&& 31))).toInt64.toUInt64 &&& Int64.toUInt64 63)).toInt64) hx hb d_Exists_any_18 rfl ?_
  refine lv_lor hx hb d_Exists_any_19 ?_
  refine lv_lload_n hx hb d_Exists_any_20 rfl (lv_at hl 2 rfl) ?_
  refine lv_iconst hx hb d_Exists_any_21 ci_3 ?_
  refine lv_iload_n hx hb d_Exists_any_22 rfl (lv_at hl 0 rfl) ?_
  refine lv_imul hx hb d_Exists_any_23 ?_
  refine lv_lushr (v := (x.toUInt64 >>> (((nI 3) * ((nI 1) <<< ((nI (2 * vr)) &&& 31))).toInt64.toUInt64 &&& Int64.toUInt64 63)).toInt64) hx hb d_Exists_any_24 rfl ?_
  refine lv_lor hx hb d_Exists_any_25 ?_
  refine va_getsN hx hb hT.2.2.1 hS hown (hK.w kw_639) (fun _ h => h) d_Exists_any_26 ?_
  refine lv_aload_n hx hb d_Exists_any_29 rfl (lv_at hl 1 rfl) ?_
  refine mm_get (v := .int (nI vr)) hK hx hb hown lg_Exists_11 hP 0 rfl rfl d_Exists_any_30 ?_
  refine va_tl (v := .long (zeF vr)) hx hb hT.2.2.2 hS (vp_in_nI (n := vr) (by omega) (by decide)) (by rw [nI_clamp (by omega)]) d_Exists_any_33 ?_
  refine lv_land hx hb d_Exists_any_34 ?_
  refine lv_lstore (lv' := [(4, .long ((((x ||| ((x.toUInt64 >>> (((nI 1) <<< ((nI (2 * vr)) &&& 31)).toInt64.toUInt64 &&& Int64.toUInt64 63)).toInt64)) ||| ((x.toUInt64 >>> (((nI 2) * ((nI 1) <<< ((nI (2 * vr)) &&& 31))).toInt64.toUInt64 &&& Int64.toUInt64 63)).toInt64)) ||| ((x.toUInt64 >>> (((nI 3) * ((nI 1) <<< ((nI (2 * vr)) &&& 31))).toInt64.toUInt64 &&& Int64.toUInt64 63)).toInt64)) &&& (zeF vr))), (3, .int ((nI 1) <<< ((nI (2 * vr)) &&& 31))), (0, .ref o), (1, .long x)]) hx hb d_Exists_any_35 hl (by decide) rfl (fun ls hl => ?_)
  refine lv_lload hx hb d_Exists_any_37 (lv_at hl 0 rfl) ?_
  refine lv_lload hx hb d_Exists_any_39 (lv_at hl 0 rfl) ?_
  refine lv_iload_n hx hb d_Exists_any_41 rfl (lv_at hl 1 rfl) ?_
  refine lv_lshl (v := ((((x ||| ((x.toUInt64 >>> (((nI 1) <<< ((nI (2 * vr)) &&& 31)).toInt64.toUInt64 &&& Int64.toUInt64 63)).toInt64)) ||| ((x.toUInt64 >>> (((nI 2) * ((nI 1) <<< ((nI (2 * vr)) &&& 31))).toInt64.toUInt64 &&& Int64.toUInt64 63)).toInt64)) ||| ((x.toUInt64 >>> (((nI 3) * ((nI 1) <<< ((nI (2 * vr)) &&& 31))).toInt64.toUInt64 &&& Int64.toUInt64 63)).toInt64)) &&& (zeF vr)) <<< (((nI 1) <<< ((nI (2 * vr)) &&& 31)).toInt64 &&& 63)) hx hb d_Exists_any_42 rfl ?_
  refine lv_lor hx hb d_Exists_any_43 ?_
  refine lv_lload hx hb d_Exists_any_44 (lv_at hl 0 rfl) ?_
  refine lv_iconst hx hb d_Exists_any_46 ci_2 ?_
  refine lv_iload_n hx hb d_Exists_any_47 rfl (lv_at hl 1 rfl) ?_
  refine lv_imul hx hb d_Exists_any_48 ?_
  refine lv_lshl (v := ((((x ||| ((x.toUInt64 >>> (((nI 1) <<< ((nI (2 * vr)) &&& 31)).toInt64.toUInt64 &&& Int64.toUInt64 63)).toInt64)) ||| ((x.toUInt64 >>> (((nI 2) * ((nI 1) <<< ((nI (2 * vr)) &&& 31))).toInt64.toUInt64 &&& Int64.toUInt64 63)).toInt64)) ||| ((x.toUInt64 >>> (((nI 3) * ((nI 1) <<< ((nI (2 * vr)) &&& 31))).toInt64.toUInt64 &&& Int64.toUInt64 63)).toInt64)) &&& (zeF vr)) <<< (((nI 2) * ((nI 1) <<< ((nI (2 * vr)) &&& 31))).toInt64 &&& 63)) hx hb d_Exists_any_49 rfl ?_
  refine lv_lor hx hb d_Exists_any_50 ?_
  refine lv_lload hx hb d_Exists_any_51 (lv_at hl 0 rfl) ?_
  refine lv_iconst hx hb d_Exists_any_53 ci_3 ?_
  refine lv_iload_n hx hb d_Exists_any_54 rfl (lv_at hl 1 rfl) ?_
  refine lv_imul hx hb d_Exists_any_55 ?_
  refine lv_lshl (v := ((((x ||| ((x.toUInt64 >>> (((nI 1) <<< ((nI (2 * vr)) &&& 31)).toInt64.toUInt64 &&& Int64.toUInt64 63)).toInt64)) ||| ((x.toUInt64 >>> (((nI 2) * ((nI 1) <<< ((nI (2 * vr)) &&& 31))).toInt64.toUInt64 &&& Int64.toUInt64 63)).toInt64)) ||| ((x.toUInt64 >>> (((nI 3) * ((nI 1) <<< ((nI (2 * vr)) &&& 31))).toInt64.toUInt64 &&& Int64.toUInt64 63)).toInt64)) &&& (zeF vr)) <<< (((nI 3) * ((nI 1) <<< ((nI (2 * vr)) &&& 31))).toInt64 &&& 63)) hx hb d_Exists_any_56 rfl ?_
  refine lv_lor hx hb d_Exists_any_57 ?_
  exact mm_lrS hx hb hr hk d_Exists_any_58 rfl
