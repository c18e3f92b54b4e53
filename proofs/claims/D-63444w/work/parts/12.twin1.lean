set_option maxHeartbeats 4000000 in
set_option maxRecDepth 100000 in
theorem c_Mod_isTerm (l : Launch) (G : mm_G) (t : Int32) : Met l y_Mod_isTerm [.code y_Mod_isTerm b_Mod_isTerm 1 (some .boolean)] { frames := 0, cells := 0, slots := 0, locals := 0 } (mm_Pre G [.int t] (fun H => True)) (vp_Si (fun r => r = bI (tmB t))) 0 0 (fun _ => False) := by
  refine mm_of (by decide) (Nat.le_of_ble_eq_true rfl) ?_
  intro p e s m below meth c ls hx hb hr hk hml hown hnm hK _ hl
  have hl : lv_has ls 1 [(0, .int t)] := hl
  refine lv_iload_n hx hb d_Mod_isTerm_0 rfl (lv_at hl 0 rfl) ?_
  refine lv_if_lt hx hb d_Mod_isTerm_1 (tgt := 9) (by decide) (fun c1 => ?_) (fun c1 => ?_)
  · rw [Int32.lt_iff_toInt_lt, Int32.toInt_zero] at c1
    refine lv_iload_n hx hb d_Mod_isTerm_9 rfl (lv_at hl 0 rfl) ?_
    refine lv_iconst hx hb d_Mod_isTerm_10 ci_4 ?_
    refine lv_icmp_lt hx hb d_Mod_isTerm_11 (tgt := 24) (by decide) (fun c11 => ?_) (fun c11 => ?_)
    · rw [Int32.lt_iff_toInt_lt, nI_toInt (n := 4) (by omega)] at c11
      refine lv_iconst hx hb d_Mod_isTerm_24 ci_0 ?_
      exact mm_zrS false (by first | rfl | decide) hx hb hr hk d_Mod_isTerm_25 (bI_f (by omega))
    · rw [Int32.lt_iff_toInt_lt, nI_toInt (n := 4) (by omega)] at c11
      refine lv_iload_n hx hb d_Mod_isTerm_14 rfl (lv_at hl 0 rfl) ?_
      refine lv_bipush (v := nI 7) hx hb d_Mod_isTerm_15 (by decide) ?_
      refine lv_icmp_gt hx hb d_Mod_isTerm_17 (tgt := 24) (by decide) (fun c17 => ?_) (fun c17 => ?_)
      · rw [Int32.lt_iff_toInt_lt, nI_toInt (n := 7) (by omega)] at c17
        refine lv_iconst hx hb d_Mod_isTerm_24 ci_0 ?_
        exact mm_zrS false (by first | rfl | decide) hx hb hr hk d_Mod_isTerm_25 (bI_f (by omega))
      · rw [Int32.lt_iff_toInt_lt, nI_toInt (n := 7) (by omega)] at c17
        refine lv_iconst hx hb d_Mod_isTerm_20 ci_1 ?_
        refine lv_goto hx hb d_Mod_isTerm_21 (tgt := 25) (by decide) ?_
        exact mm_zrS true (by first | rfl | decide) hx hb hr hk d_Mod_isTerm_25 (bI_t (by omega))
  · rw [Int32.lt_iff_toInt_lt, Int32.toInt_zero] at c1
    refine lv_iload_n hx hb d_Mod_isTerm_4 rfl (lv_at hl 0 rfl) ?_
    refine lv_iconst hx hb d_Mod_isTerm_5 ci_2 ?_
    refine lv_icmp_le hx hb d_Mod_isTerm_6 (tgt := 20) (by decide) (fun c6 => ?_) (fun c6 => ?_)
    · rw [Int32.le_iff_toInt_le, nI_toInt (n := 2) (by omega)] at c6
      refine lv_iconst hx hb d_Mod_isTerm_20 ci_1 ?_
      refine lv_goto hx hb d_Mod_isTerm_21 (tgt := 25) (by decide) ?_
      exact mm_zrS true (by first | rfl | decide) hx hb hr hk d_Mod_isTerm_25 (bI_t (by omega))
    · rw [Int32.le_iff_toInt_le, nI_toInt (n := 2) (by omega)] at c6
      refine lv_iload_n hx hb d_Mod_isTerm_9 rfl (lv_at hl 0 rfl) ?_
      refine lv_iconst hx hb d_Mod_isTerm_10 ci_4 ?_
      refine lv_icmp_lt hx hb d_Mod_isTerm_11 (tgt := 24) (by decide) (fun c11 => ?_) (fun c11 => ?_)
      · rw [Int32.lt_iff_toInt_lt, nI_toInt (n := 4) (by omega)] at c11
        refine lv_iconst hx hb d_Mod_isTerm_24 ci_0 ?_
        exact mm_zrS false (by first | rfl | decide) hx hb hr hk d_Mod_isTerm_25 (bI_f (by omega))
      · rw [Int32.lt_iff_toInt_lt, nI_toInt (n := 4) (by omega)] at c11
        refine lv_iload_n hx hb d_Mod_isTerm_14 rfl (lv_at hl 0 rfl) ?_
        refine lv_bipush (v := nI 7) hx hb d_Mod_isTerm_15 (by decide) ?_
        refine lv_icmp_gt hx hb d_Mod_isTerm_17 (tgt := 24) (by decide) (fun c17 => ?_) (fun c17 => ?_)
        · rw [Int32.lt_iff_toInt_lt, nI_toInt (n := 7) (by omega)] at c17
          refine lv_iconst hx hb d_Mod_isTerm_24 ci_0 ?_
          exact mm_zrS false (by first | rfl | decide) hx hb hr hk d_Mod_isTerm_25 (bI_f (by omega))
        · rw [Int32.lt_iff_toInt_lt, nI_toInt (n := 7) (by omega)] at c17
          refine lv_iconst hx hb d_Mod_isTerm_20 ci_1 ?_
          refine lv_goto hx hb d_Mod_isTerm_21 (tgt := 25) (by decide) ?_
          exact mm_zrS true (by first | rfl | decide) hx hb hr hk d_Mod_isTerm_25 (bI_t (by omega))
set_option maxHeartbeats 4000000 in
set_option maxRecDepth 100000 in
theorem c_Mod_isInterval (l : Launch) (G : mm_G) (lo hi : Int32) (op : Bool) : Met l y_Mod_isInterval [.code y_Mod_isInterval b_Mod_isInterval 3 (some .boolean)] { frames := 0, cells := 0, slots := 0, locals := 0 } (mm_Pre G [.int lo, .int hi, .int (bI op)] (fun H => True)) (vp_Si (fun r => r = bI (ivB lo hi op))) 0 0 (fun _ => False) := by
  refine mm_of (by decide) (Nat.le_of_ble_eq_true rfl) ?_
  intro p e s m below meth c ls hx hb hr hk hml hown hnm hK _ hl
  have hl : lv_has ls 3 [(0, .int lo), (1, .int hi), (2, .int (bI op))] := hl
  refine lv_iload_n hx hb d_Mod_isInterval_0 rfl (lv_at hl 0 rfl) ?_
  refine lv_if_lt hx hb d_Mod_isInterval_1 (tgt := 34) (by decide) (fun c1 => ?_) (fun c1 => ?_)
  · rw [Int32.lt_iff_toInt_lt, Int32.toInt_zero] at c1
    refine lv_iconst hx hb d_Mod_isInterval_34 ci_0 ?_
    exact mm_zrS false (by first | rfl | decide) hx hb hr hk d_Mod_isInterval_35 (bI_f (fun ⟨a1, a2, a3⟩ => by rcases a3 with ⟨b1, b2⟩ | ⟨b1, b2⟩ <;> first | omega | (rw [c22] at b1; cases b1)))
  · rw [Int32.lt_iff_toInt_lt, Int32.toInt_zero] at c1
    refine lv_iload_n hx hb d_Mod_isInterval_4 rfl (lv_at hl 0 rfl) ?_
    refine lv_ldc (v := 1000000) hx hb hown (hK.w kw_826) d_Mod_isInterval_5 ?_
    refine mm_ti (y := nI 1000000) (by decide) ?_
    refine lv_icmp_gt hx hb d_Mod_isInterval_7 (tgt := 34) (by decide) (fun c7 => ?_) (fun c7 => ?_)
    · rw [Int32.lt_iff_toInt_lt, nI_toInt (n := 1000000) (by omega)] at c7
      refine lv_iconst hx hb d_Mod_isInterval_34 ci_0 ?_
      exact mm_zrS false (by first | rfl | decide) hx hb hr hk d_Mod_isInterval_35 (bI_f (fun ⟨a1, a2, a3⟩ => by rcases a3 with ⟨b1, b2⟩ | ⟨b1, b2⟩ <;> first | omega | (rw [c22] at b1; cases b1)))
    · rw [Int32.lt_iff_toInt_lt, nI_toInt (n := 1000000) (by omega)] at c7
      refine lv_iload_n hx hb d_Mod_isInterval_10 rfl (lv_at hl 1 rfl) ?_
      refine lv_iload_n hx hb d_Mod_isInterval_11 rfl (lv_at hl 0 rfl) ?_
      refine lv_icmp_lt hx hb d_Mod_isInterval_12 (tgt := 21) (by decide) (fun c12 => ?_) (fun c12 => ?_)
      · rw [Int32.lt_iff_toInt_lt] at c12
        refine lv_iload_n hx hb d_Mod_isInterval_21 rfl (lv_at hl 2 rfl) ?_
        refine mm_ifeqB hx hb d_Mod_isInterval_22 (tgt := 34) (by decide) (fun c22 => ?_) (fun c22 => ?_)
        · refine lv_iconst hx hb d_Mod_isInterval_34 ci_0 ?_
          exact mm_zrS false (by first | rfl | decide) hx hb hr hk d_Mod_isInterval_35 (bI_f (fun ⟨a1, a2, a3⟩ => by rcases a3 with ⟨b1, b2⟩ | ⟨b1, b2⟩ <;> first | omega | (rw [c22] at b1; cases b1)))
        · refine lv_iload_n hx hb d_Mod_isInterval_25 rfl (lv_at hl 1 rfl) ?_
          refine lv_iconst hx hb d_Mod_isInterval_26 ci_m1 ?_
          refine lv_icmp_ne hx hb d_Mod_isInterval_27 (tgt := 34) (by decide) (fun c27 => ?_) (fun c27 => ?_)
          · rw [i32_eqT, m1_toInt] at c27
            refine lv_iconst hx hb d_Mod_isInterval_34 ci_0 ?_
            exact mm_zrS false (by first | rfl | decide) hx hb hr hk d_Mod_isInterval_35 (bI_f (fun ⟨a1, a2, a3⟩ => by rcases a3 with ⟨b1, b2⟩ | ⟨b1, b2⟩ <;> first | omega | (rw [c22] at b1; cases b1)))
          · rw [i32_eqT, m1_toInt] at c27
            refine lv_iconst hx hb d_Mod_isInterval_30 ci_1 ?_
            refine lv_goto hx hb d_Mod_isInterval_31 (tgt := 35) (by decide) ?_
            exact mm_zrS true (by first | rfl | decide) hx hb hr hk d_Mod_isInterval_35 (bI_t ⟨by omega, by omega, by first | exact Or.inl ⟨by omega, by omega⟩ | exact Or.inr ⟨c22, c27⟩⟩)
      · rw [Int32.lt_iff_toInt_lt] at c12
        refine lv_iload_n hx hb d_Mod_isInterval_15 rfl (lv_at hl 1 rfl) ?_
        refine lv_ldc (v := 1000000) hx hb hown (hK.w kw_826) d_Mod_isInterval_16 ?_
        refine mm_ti (y := nI 1000000) (by decide) ?_
        refine lv_icmp_le hx hb d_Mod_isInterval_18 (tgt := 30) (by decide) (fun c18 => ?_) (fun c18 => ?_)
        · rw [Int32.le_iff_toInt_le, nI_toInt (n := 1000000) (by omega)] at c18
          refine lv_iconst hx hb d_Mod_isInterval_30 ci_1 ?_
          refine lv_goto hx hb d_Mod_isInterval_31 (tgt := 35) (by decide) ?_
          exact mm_zrS true (by first | rfl | decide) hx hb hr hk d_Mod_isInterval_35 (bI_t ⟨by omega, by omega, by first | exact Or.inl ⟨by omega, by omega⟩ | exact Or.inr ⟨c22, c27⟩⟩)
        · rw [Int32.le_iff_toInt_le, nI_toInt (n := 1000000) (by omega)] at c18
          refine lv_iload_n hx hb d_Mod_isInterval_21 rfl (lv_at hl 2 rfl) ?_
          refine mm_ifeqB hx hb d_Mod_isInterval_22 (tgt := 34) (by decide) (fun c22 => ?_) (fun c22 => ?_)
          · refine lv_iconst hx hb d_Mod_isInterval_34 ci_0 ?_
            exact mm_zrS false (by first | rfl | decide) hx hb hr hk d_Mod_isInterval_35 (bI_f (fun ⟨a1, a2, a3⟩ => by rcases a3 with ⟨b1, b2⟩ | ⟨b1, b2⟩ <;> first | omega | (rw [c22] at b1; cases b1)))
          · refine lv_iload_n hx hb d_Mod_isInterval_25 rfl (lv_at hl 1 rfl) ?_
            refine lv_iconst hx hb d_Mod_isInterval_26 ci_m1 ?_
            refine lv_icmp_ne hx hb d_Mod_isInterval_27 (tgt := 34) (by decide) (fun c27 => ?_) (fun c27 => ?_)
            · rw [i32_eqT, m1_toInt] at c27
              refine lv_iconst hx hb d_Mod_isInterval_34 ci_0 ?_
              exact mm_zrS false (by first | rfl | decide) hx hb hr hk d_Mod_isInterval_35 (bI_f (fun ⟨a1, a2, a3⟩ => by rcases a3 with ⟨b1, b2⟩ | ⟨b1, b2⟩ <;> first | omega | (rw [c22] at b1; cases b1)))
            · rw [i32_eqT, m1_toInt] at c27
              refine lv_iconst hx hb d_Mod_isInterval_30 ci_1 ?_
              refine lv_goto hx hb d_Mod_isInterval_31 (tgt := 35) (by decide) ?_
              exact mm_zrS true (by first | rfl | decide) hx hb hr hk d_Mod_isInterval_35 (bI_t ⟨by omega, by omega, by first | exact Or.inl ⟨by omega, by omega⟩ | exact Or.inr ⟨c22, c27⟩⟩)
set_option maxHeartbeats 4000000 in
set_option maxRecDepth 100000 in
theorem c_Mod_variable (l : Launch) (G : mm_G) (t : Nat) (ht : t < 8) : Met l y_Mod_variable [.code y_Mod_variable b_Mod_variable 1 (some .int)] { frames := 0, cells := 0, slots := 0, locals := 0 } (mm_Pre G [.int (nI t)] (fun H => True)) (vp_Si (fun r => r = nI (vrN t))) 0 0 (fun _ => False) := by
  refine mm_of (by decide) (Nat.le_of_ble_eq_true rfl) ?_
  intro p e s m below meth c ls hx hb hr hk hml hown hnm hK _ hl
  have hl : lv_has ls 1 [(0, .int (nI t))] := hl
  refine lv_iload_n hx hb d_Mod_variable_0 rfl (lv_at hl 0 rfl) ?_
  refine lv_iconst hx hb d_Mod_variable_1 ci_2 ?_
  refine lv_icmp_gt hx hb d_Mod_variable_2 (tgt := 11) (by decide) (fun c2 => ?_) (fun c2 => ?_)
  · have c2 : t > 2 := nb_gtt (by omega) (by omega) c2
    refine lv_iconst hx hb d_Mod_variable_11 ci_0 ?_
    exact mm_irS hx hb hr hk d_Mod_variable_12 (by rw [show vrN t = 0 from if_neg (by omega)])
  · have c2 : t ≤ 2 := nb_gtf (by omega) (by omega) c2
    refine lv_iconst hx hb d_Mod_variable_5 ci_1 ?_
    refine lv_iload_n hx hb d_Mod_variable_6 rfl (lv_at hl 0 rfl) ?_
    refine lv_ishl hx hb d_Mod_variable_7 ?_
    refine lv_goto hx hb d_Mod_variable_8 (tgt := 12) (by decide) ?_
    exact mm_irS hx hb hr hk d_Mod_variable_12 (by rw [show vrN t = 2 ^ t from if_pos c2]; exact vr_lem t c2)
set_option maxHeartbeats 4000000 in
set_option maxRecDepth 100000 in
theorem c_Mod_value (l : Launch) (G : mm_G) (t n : Nat) (ht : t < 8) (h3 : t ≠ 3) (hn : n < 64) : Met l y_Mod_value [.code y_Mod_value b_Mod_value 2 (some .int)] { frames := 0, cells := 0, slots := 0, locals := 0 } (mm_Pre G [.int (nI t), .int (nI n)] (fun H => True)) (vp_Si (fun r => r = nI (vlN t n))) 0 0 (fun _ => False) := by
  refine mm_of (by decide) (Nat.le_of_ble_eq_true rfl) ?_
  intro p e s m below meth c ls hx hb hr hk hml hown hnm hK _ hl
  have hl : lv_has ls 2 [(0, .int (nI t)), (1, .int (nI n))] := hl
  refine lv_iload_n hx hb d_Mod_value_0 rfl (lv_at hl 0 rfl) ?_
  refine lv_iconst hx hb d_Mod_value_1 ci_2 ?_
  refine lv_icmp_gt hx hb d_Mod_value_2 (tgt := 15) (by decide) (fun c2 => ?_) (fun c2 => ?_)
  · have c2 : t > 2 := nb_gtt (by omega) (by omega) c2
    refine lv_iload_n hx hb d_Mod_value_15 rfl (lv_at hl 0 rfl) ?_
    refine lv_iconst hx hb d_Mod_value_16 ci_4 ?_
    refine lv_isub hx hb d_Mod_value_17 ?_
    refine mm_ti (y := nI (t - 4)) (pk_sub (by omega)) ?_
    exact mm_irS hx hb hr hk d_Mod_value_18 (by rw [show vlN t n = t - 4 from if_neg (by omega)])
  · have c2 : t ≤ 2 := nb_gtf (by omega) (by omega) c2
    refine lv_iload_n hx hb d_Mod_value_5 rfl (lv_at hl 1 rfl) ?_
    refine lv_iconst hx hb d_Mod_value_6 ci_2 ?_
    refine lv_iload_n hx hb d_Mod_value_7 rfl (lv_at hl 0 rfl) ?_
    refine lv_imul hx hb d_Mod_value_8 ?_
    refine mm_ti (pk_mul _ _) ?_
    refine lv_ishr hx hb d_Mod_value_9 ?_
    refine lv_iconst hx hb d_Mod_value_10 ci_3 ?_
    refine lv_iand hx hb d_Mod_value_11 ?_
    refine lv_goto hx hb d_Mod_value_12 (tgt := 18) (by decide) ?_
    exact mm_irS hx hb hr hk d_Mod_value_18 (by rw [show vlN t n = n / 4 ^ t % 4 from if_pos c2]; exact vl_lem t c2 n hn)
set_option maxHeartbeats 4000000 in
set_option maxRecDepth 100000 in
theorem c_Mod_isFormula (l : Launch) (G : mm_G) (o : Nat) (ad : Nat → Nat) (nf : Nat) (wt : Bool) (np : Nat) (kK kW kF kS kL kE tm pr ga : Nat → Nat) (ho : Nat → Int64) (pa : Nat → Bool) (fr rg re : Nat → Nat) (f : Int32) (hn : nf ≤ 12) : Met l y_Mod_isFormula [.code y_Mod_isFormula b_Mod_isFormula 2 (some .boolean)] { frames := 0, cells := 0, slots := 0, locals := 0 } (mm_Pre G [.ref o, .int f] (fun H => va_P G.1 cls_all (TW G o ad nf wt np kK kW kF kS kL kE tm pr ga ho pa fr rg re) H)) (vp_Si (fun r => r = bI (fmB f nf))) 0 0 (fun _ => False) := by
  refine mm_of (by decide) (Nat.le_of_ble_eq_true rfl) ?_
  intro p e s m below meth c ls hx hb hr hk hml hown hnm hK hP hl
  have hl : lv_has ls 2 [(0, .ref o), (1, .int f)] := hl
  refine lv_iload_n hx hb d_Mod_isFormula_0 rfl (lv_at hl 1 rfl) ?_
  refine lv_if_lt hx hb d_Mod_isFormula_1 (tgt := 16) (by decide) (fun c1 => ?_) (fun c1 => ?_)
  · rw [Int32.lt_iff_toInt_lt, Int32.toInt_zero] at c1
    refine lv_iconst hx hb d_Mod_isFormula_16 ci_0 ?_
    exact mm_zrS false (by first | rfl | decide) hx hb hr hk d_Mod_isFormula_17 (bI_f (by omega))
  · rw [Int32.lt_iff_toInt_lt, Int32.toInt_zero] at c1
    refine lv_iload_n hx hb d_Mod_isFormula_4 rfl (lv_at hl 1 rfl) ?_
    refine lv_aload_n hx hb d_Mod_isFormula_5 rfl (lv_at hl 0 rfl) ?_
    refine mm_get (v := .int (nI nf)) hK hx hb hown lg_Mod_54 hP 0 rfl rfl d_Mod_isFormula_6 ?_
    refine lv_icmp_ge hx hb d_Mod_isFormula_9 (tgt := 16) (by decide) (fun c9 => ?_) (fun c9 => ?_)
    · rw [Int32.le_iff_toInt_le, nI_toInt (n := nf) (by omega)] at c9
      refine lv_iconst hx hb d_Mod_isFormula_16 ci_0 ?_
      exact mm_zrS false (by first | rfl | decide) hx hb hr hk d_Mod_isFormula_17 (bI_f (by omega))
    · rw [Int32.le_iff_toInt_le, nI_toInt (n := nf) (by omega)] at c9
      refine lv_iconst hx hb d_Mod_isFormula_12 ci_1 ?_
      refine lv_goto hx hb d_Mod_isFormula_13 (tgt := 17) (by decide) ?_
      exact mm_zrS true (by first | rfl | decide) hx hb hr hk d_Mod_isFormula_17 (bI_t (by omega))
set_option maxHeartbeats 4000000 in
set_option maxRecDepth 100000 in
theorem c_Mod_mayMake (l : Launch) (G : mm_G) (o : Nat) (ad : Nat → Nat) (nf : Nat) (wt : Bool) (np : Nat) (kK kW kF kS kL kE tm pr ga : Nat → Nat) (ho : Nat → Int64) (pa : Nat → Bool) (fr rg re : Nat → Nat) (hn : nf ≤ 12) : Met l y_Mod_mayMake [.code y_Mod_mayMake b_Mod_mayMake 1 (some .boolean)] { frames := 0, cells := 0, slots := 0, locals := 0 } (mm_Pre G [.ref o] (fun H => va_P G.1 cls_all (TW G o ad nf wt np kK kW kF kS kL kE tm pr ga ho pa fr rg re) H)) (vp_Si (fun r => r = bI (mkB wt nf))) 0 0 (fun _ => False) := by
  refine mm_of (by decide) (Nat.le_of_ble_eq_true rfl) ?_
  intro p e s m below meth c ls hx hb hr hk hml hown hnm hK hP hl
  have hl : lv_has ls 1 [(0, .ref o)] := hl
  refine lv_aload_n hx hb d_Mod_mayMake_0 rfl (lv_at hl 0 rfl) ?_
  refine mm_get (v := .int (bI wt)) hK hx hb hown lg_Mod_58 hP 0 rfl rfl d_Mod_mayMake_1 ?_
  refine mm_ifneB hx hb d_Mod_mayMake_4 (tgt := 20) (by decide) (fun c4 => ?_) (fun c4 => ?_)
  · refine lv_iconst hx hb d_Mod_mayMake_20 ci_0 ?_
    exact mm_zrS false (by first | rfl | decide) hx hb hr hk d_Mod_mayMake_21 (bI_f (fun ⟨a1, a2⟩ => by first | omega | (rw [c4] at a1; cases a1)))
  · refine lv_aload_n hx hb d_Mod_mayMake_7 rfl (lv_at hl 0 rfl) ?_
    refine mm_get (v := .int (nI nf)) hK hx hb hown lg_Mod_54 hP 0 rfl rfl d_Mod_mayMake_8 ?_
    refine lv_bipush (v := nI 12) hx hb d_Mod_mayMake_11 (by decide) ?_
    refine lv_icmp_ge hx hb d_Mod_mayMake_13 (tgt := 20) (by decide) (fun c13 => ?_) (fun c13 => ?_)
    · have c13 : nf ≥ 12 := nb_get (by omega) (by omega) c13
      refine lv_iconst hx hb d_Mod_mayMake_20 ci_0 ?_
      exact mm_zrS false (by first | rfl | decide) hx hb hr hk d_Mod_mayMake_21 (bI_f (fun ⟨a1, a2⟩ => by first | omega | (rw [c4] at a1; cases a1)))
    · have c13 : nf < 12 := nb_gef (by omega) (by omega) c13
      refine lv_iconst hx hb d_Mod_mayMake_16 ci_1 ?_
      refine lv_goto hx hb d_Mod_mayMake_17 (tgt := 21) (by decide) ?_
      exact mm_zrS true (by first | rfl | decide) hx hb hr hk d_Mod_mayMake_21 (bI_t ⟨c4, by omega⟩)
set_option maxHeartbeats 4000000 in
set_option maxRecDepth 100000 in
theorem c_Mod_at (l : Launch) (G : mm_G) (o : Nat) (ad : Nat → Nat) (nf : Nat) (wt : Bool) (np : Nat) (kK kW kF kS kL kE tm pr ga : Nat → Nat) (ho : Nat → Int64) (pa : Nat → Bool) (fr rg re : Nat → Nat) (f i n : Nat) (hf : f < 12) (hi : i < 24) (hn : n < 64) : Met l y_Mod_at [.code y_Mod_at b_Mod_at 4 (some .boolean)] { frames := 0, cells := 0, slots := 0, locals := 0 } (mm_Pre G [.ref o, .int (nI f), .int (nI i), .int (nI n)] (fun H => va_P G.1 cls_all (TW G o ad nf wt np kK kW kF kS kL kE tm pr ga ho pa fr rg re) H)) (vp_Si (fun r => r = bI (tb (ho (24 * f + i)) n))) 0 0 (fun _ => False) := by
  refine mm_of (by decide) (Nat.le_of_ble_eq_true rfl) ?_
  intro p e s m below meth c ls hx hb hr hk hml hown hnm hK hP hl
  have hl : lv_has ls 4 [(0, .ref o), (1, .int (nI f)), (2, .int (nI i)), (3, .int (nI n))] := hl
  refine lv_aload_n hx hb d_Mod_at_0 rfl (lv_at hl 0 rfl) ?_
  refine mm_get (v := .ref (ad 9)) hK hx hb hown lg_Mod_37 hP 0 rfl rfl d_Mod_at_1 ?_
  refine lv_bipush (v := nI 24) hx hb d_Mod_at_4 (by decide) ?_
  refine lv_iload_n hx hb d_Mod_at_6 rfl (lv_at hl 1 rfl) ?_
  refine lv_imul hx hb d_Mod_at_7 ?_
  refine mm_ti (pk_mul _ _) ?_
  refine lv_iload_n hx hb d_Mod_at_8 rfl (lv_at hl 2 rfl) ?_
  refine lv_iadd hx hb d_Mod_at_9 ?_
  refine mm_ti (nI_add _ _) ?_
  refine mm_lald hK hx hb hP 10 rfl (by decide) (i := (24 * f) + i) (by omega) d_Mod_at_10 ?_
  refine lv_iload_n hx hb d_Mod_at_11 rfl (lv_at hl 3 rfl) ?_
  refine lv_lshr (v := (ho ((24 * f) + i)) >>> ((nI n).toInt64 &&& 63)) hx hb d_Mod_at_12 rfl ?_
  refine lv_lconst (v := 1) hx hb d_Mod_at_13 (by decide) ?_
  refine lv_land hx hb d_Mod_at_14 ?_
  refine lv_lconst (v := 1) hx hb d_Mod_at_15 (by decide) ?_
  refine W.lcmp hx hb d_Mod_at_16 ?_
  refine lv_if_ne hx hb d_Mod_at_17 (tgt := 24) (by decide) (fun c17 => ?_) (fun c17 => ?_)
  · rw [cmp_lem] at c17
    refine lv_iconst hx hb d_Mod_at_24 ci_0 ?_
    exact mm_zrS false (by first | rfl | decide) hx hb hr hk d_Mod_at_25 (by rw [Bool.eq_false_iff.mpr (fun h => c17 ((at_lem _ hn).mpr h))])
  · rw [cmp_lem] at c17
    refine lv_iconst hx hb d_Mod_at_20 ci_1 ?_
    refine lv_goto hx hb d_Mod_at_21 (tgt := 25) (by decide) ?_
    exact mm_zrS true (by first | rfl | decide) hx hb hr hk d_Mod_at_25 (by rw [(at_lem _ hn).mp c17])
set_option maxHeartbeats 4000000 in
set_option maxRecDepth 100000 in
theorem c_Mod_lies (l : Launch) (G : mm_G) (o : Nat) (ad : Nat → Nat) (nf : Nat) (wt : Bool) (np : Nat) (kK kW kF kS kL kE tm pr ga : Nat → Nat) (ho : Nat → Int64) (pa : Nat → Bool) (fr rg re : Nat → Nat) (f d : Nat) (hf : f < 12) (hd : d < 2 ^ 30) (hL : kL f < 2 ^ 30) (hE : kE f < 2 ^ 30) : Met l y_Mod_lies [.code y_Mod_lies b_Mod_lies 3 (some .boolean)] { frames := 0, cells := 0, slots := 0, locals := 0 } (mm_Pre G [.ref o, .int (nI f), .int (nI d)] (fun H => va_P G.1 cls_all (TW G o ad nf wt np kK kW kF kS kL kE tm pr ga ho pa fr rg re) H)) (vp_Si (fun r => r = bI (liB (kL f) (kE f) d))) 0 0 (fun _ => False) := by
  refine mm_of (by decide) (Nat.le_of_ble_eq_true rfl) ?_
  intro p e s m below meth c ls hx hb hr hk hml hown hnm hK hP hl
  have hl : lv_has ls 3 [(0, .ref o), (1, .int (nI f)), (2, .int (nI d))] := hl
  refine lv_iload_n hx hb d_Mod_lies_0 rfl (lv_at hl 2 rfl) ?_
  refine lv_aload_n hx hb d_Mod_lies_1 rfl (lv_at hl 0 rfl) ?_
  refine mm_get (v := .ref (ad 4)) hK hx hb hown lg_Mod_22 hP 0 rfl rfl d_Mod_lies_2 ?_
  refine lv_iload_n hx hb d_Mod_lies_5 rfl (lv_at hl 1 rfl) ?_
  refine mm_iald hK hx hb hP 5 rfl (by decide) (i := f) (by omega) d_Mod_lies_6 ?_
  refine lv_icmp_lt hx hb d_Mod_lies_7 (tgt := 34) (by decide) (fun c7 => ?_) (fun c7 => ?_)
  · have c7 : d < kL f := nb_ltt (by omega) (by omega) c7
    refine lv_iconst hx hb d_Mod_lies_34 ci_0 ?_
    exact mm_zrS false (by first | rfl | decide) hx hb hr hk d_Mod_lies_35 (bI_f (by omega))
  · have c7 : d ≥ kL f := nb_ltf (by omega) (by omega) c7
    refine lv_aload_n hx hb d_Mod_lies_10 rfl (lv_at hl 0 rfl) ?_
    refine mm_get (v := .ref (ad 5)) hK hx hb hown lg_Mod_25 hP 0 rfl rfl d_Mod_lies_11 ?_
    refine lv_iload_n hx hb d_Mod_lies_14 rfl (lv_at hl 1 rfl) ?_
    refine mm_iald hK hx hb hP 6 rfl (by decide) (i := f) (by omega) d_Mod_lies_15 ?_
    refine lv_iconst hx hb d_Mod_lies_16 ci_m1 ?_
    refine lv_icmp_eq hx hb d_Mod_lies_17 (tgt := 30) (by decide) (fun c17 => ?_) (fun c17 => ?_)
    · rw [i32_eqT, eI_toInt (n := kE f) (by omega), m1_toInt] at c17
      refine lv_iconst hx hb d_Mod_lies_30 ci_1 ?_
      refine lv_goto hx hb d_Mod_lies_31 (tgt := 35) (by decide) ?_
      exact mm_zrS true (by first | rfl | decide) hx hb hr hk d_Mod_lies_35 (bI_t (by omega))
    · rw [i32_eqT, eI_toInt (n := kE f) (by omega), m1_toInt] at c17
      refine lv_iload_n hx hb d_Mod_lies_20 rfl (lv_at hl 2 rfl) ?_
      refine lv_aload_n hx hb d_Mod_lies_21 rfl (lv_at hl 0 rfl) ?_
      refine mm_get (v := .ref (ad 5)) hK hx hb hown lg_Mod_25 hP 0 rfl rfl d_Mod_lies_22 ?_
      refine lv_iload_n hx hb d_Mod_lies_25 rfl (lv_at hl 1 rfl) ?_
      refine mm_iald hK hx hb hP 6 rfl (by decide) (i := f) (by omega) d_Mod_lies_26 ?_
      refine lv_icmp_gt hx hb d_Mod_lies_27 (tgt := 34) (by decide) (fun c27 => ?_) (fun c27 => ?_)
      · rw [Int32.lt_iff_toInt_lt, nI_toInt (n := d) (by omega), eI_toInt (n := kE f) (by omega)] at c27
        refine lv_iconst hx hb d_Mod_lies_34 ci_0 ?_
        exact mm_zrS false (by first | rfl | decide) hx hb hr hk d_Mod_lies_35 (bI_f (by omega))
      · rw [Int32.lt_iff_toInt_lt, nI_toInt (n := d) (by omega), eI_toInt (n := kE f) (by omega)] at c27
        refine lv_iconst hx hb d_Mod_lies_30 ci_1 ?_
        refine lv_goto hx hb d_Mod_lies_31 (tgt := 35) (by decide) ?_
        exact mm_zrS true (by first | rfl | decide) hx hb hr hk d_Mod_lies_35 (bI_t (by omega))
set_option maxHeartbeats 4000000 in
set_option maxRecDepth 100000 in
theorem c_Mod_lesser (l : Launch) (G : mm_G) (o : Nat) (ad : Nat → Nat) (nf : Nat) (wt : Bool) (np : Nat) (kK kW kF kS kL kE tm pr ga : Nat → Nat) (ho : Nat → Int64) (pa : Nat → Bool) (fr rg re : Nat → Nat) (a b : Nat) (ha : a < 100) (hb : b < 100) : Met l y_Mod_lesser [.code y_Mod_lesser b_Mod_lesser 3 (some .int)] { frames := 0, cells := 0, slots := 0, locals := 0 } (mm_Pre G [.ref o, .int (nI a), .int (nI b)] (fun H => va_P G.1 cls_all (TW G o ad nf wt np kK kW kF kS kL kE tm pr ga ho pa fr rg re) H)) (vp_Si (fun r => r = nI (min a b))) 0 0 (fun _ => False) := by
  refine mm_of (by decide) (Nat.le_of_ble_eq_true rfl) ?_
  intro p e s m below meth c ls hx hb hr hk hml hown hnm hK hP hl
  have hl : lv_has ls 3 [(0, .ref o), (1, .int (nI a)), (2, .int (nI b))] := hl
  refine lv_iload_n hx hb d_Mod_lesser_0 rfl (lv_at hl 1 rfl) ?_
  refine lv_iload_n hx hb d_Mod_lesser_1 rfl (lv_at hl 2 rfl) ?_
  refine lv_icmp_ge hx hb d_Mod_lesser_2 (tgt := 9) (by decide) (fun c2 => ?_) (fun c2 => ?_)
  · have c2 : a ≥ b := nb_get (by omega) (by omega) c2
    refine lv_iload_n hx hb d_Mod_lesser_9 rfl (lv_at hl 2 rfl) ?_
    exact mm_irS hx hb hr hk d_Mod_lesser_10 (by rw [show min a b = b from by omega])
  · have c2 : a < b := nb_gef (by omega) (by omega) c2
    refine lv_iload_n hx hb d_Mod_lesser_5 rfl (lv_at hl 1 rfl) ?_
    refine lv_goto hx hb d_Mod_lesser_6 (tgt := 10) (by decide) ?_
    exact mm_irS hx hb hr hk d_Mod_lesser_10 (by rw [show min a b = a from by omega])
