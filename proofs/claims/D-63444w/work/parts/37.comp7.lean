set_option maxHeartbeats 4000000 in
set_option maxRecDepth 100000 in
theorem c_Long_bitCount (l : Launch) (G : mm_G) (x : Int64) : Met l y_Long_bitCount [.code y_Long_bitCount b_Long_bitCount 2 (some .int)] { frames := 0, cells := 0, slots := 0, locals := 0 } (mm_Pre G [.long x] (fun H => True)) (vp_Si (fun r => r = bcL x)) 0 0 (fun _ => False) := by
  refine mm_of (by decide) (Nat.le_of_ble_eq_true rfl) ?_
  intro p e s m below meth c ls hx hb hr hk hml hown hnm hK _ hl
  have hl : lv_has ls 2 [(0, .long x)] := hl
  refine lv_lload_n hx hb d_Long_bitCount_0 rfl (lv_at hl 0 rfl) ?_
  refine lv_lload_n hx hb d_Long_bitCount_1 rfl (lv_at hl 0 rfl) ?_
  refine lv_iconst hx hb d_Long_bitCount_2 ci_1 ?_
  refine lv_lushr (v := (x.toUInt64 >>> ((nI 1).toInt64.toUInt64 &&& Int64.toUInt64 63)).toInt64) hx hb d_Long_bitCount_3 rfl ?_
  refine lv_ldc2 hx hb hown (hK.w kw_716) d_Long_bitCount_4 ?_
  refine lv_land hx hb d_Long_bitCount_7 ?_
  refine lv_lsub hx hb d_Long_bitCount_8 ?_
  refine mm_tl (y := bL1 x) rfl ?_
  refine lv_lstore_n (lv' := [(0, .long (bL1 x))]) hx hb d_Long_bitCount_9 rfl hl (by decide) rfl (fun ls hl => ?_)
  refine lv_lload_n hx hb d_Long_bitCount_10 rfl (lv_at hl 0 rfl) ?_
  refine lv_ldc2 hx hb hown (hK.w kw_717) d_Long_bitCount_11 ?_
  refine lv_land hx hb d_Long_bitCount_14 ?_
  refine lv_lload_n hx hb d_Long_bitCount_15 rfl (lv_at hl 0 rfl) ?_
  refine lv_iconst hx hb d_Long_bitCount_16 ci_2 ?_
  refine lv_lushr (v := ((bL1 x).toUInt64 >>> ((nI 2).toInt64.toUInt64 &&& Int64.toUInt64 63)).toInt64) hx hb d_Long_bitCount_17 rfl ?_
  refine lv_ldc2 hx hb hown (hK.w kw_717) d_Long_bitCount_18 ?_
  refine lv_land hx hb d_Long_bitCount_21 ?_
  refine lv_ladd hx hb d_Long_bitCount_22 ?_
  refine mm_tl (y := bL2 (bL1 x)) rfl ?_
  refine lv_lstore_n (lv' := [(0, .long (bL2 (bL1 x)))]) hx hb d_Long_bitCount_23 rfl hl (by decide) rfl (fun ls hl => ?_)
  refine lv_lload_n hx hb d_Long_bitCount_24 rfl (lv_at hl 0 rfl) ?_
  refine lv_lload_n hx hb d_Long_bitCount_25 rfl (lv_at hl 0 rfl) ?_
  refine lv_iconst hx hb d_Long_bitCount_26 ci_4 ?_
  refine lv_lushr (v := ((bL2 (bL1 x)).toUInt64 >>> ((nI 4).toInt64.toUInt64 &&& Int64.toUInt64 63)).toInt64) hx hb d_Long_bitCount_27 rfl ?_
  refine lv_ladd hx hb d_Long_bitCount_28 ?_
  refine lv_ldc2 hx hb hown (hK.w kw_718) d_Long_bitCount_29 ?_
  refine lv_land hx hb d_Long_bitCount_32 ?_
  refine mm_tl (y := bL3 (bL2 (bL1 x))) rfl ?_
  refine lv_lstore_n (lv' := [(0, .long (bL3 (bL2 (bL1 x))))]) hx hb d_Long_bitCount_33 rfl hl (by decide) rfl (fun ls hl => ?_)
  refine lv_lload_n hx hb d_Long_bitCount_34 rfl (lv_at hl 0 rfl) ?_
  refine lv_lload_n hx hb d_Long_bitCount_35 rfl (lv_at hl 0 rfl) ?_
  refine lv_bipush (v := nI 8) hx hb d_Long_bitCount_36 (by decide) ?_
  refine lv_lushr (v := ((bL3 (bL2 (bL1 x))).toUInt64 >>> ((nI 8).toInt64.toUInt64 &&& Int64.toUInt64 63)).toInt64) hx hb d_Long_bitCount_38 rfl ?_
  refine lv_ladd hx hb d_Long_bitCount_39 ?_
  refine mm_tl (y := bL4 8 (bL3 (bL2 (bL1 x)))) rfl ?_
  refine lv_lstore_n (lv' := [(0, .long (bL4 8 (bL3 (bL2 (bL1 x)))))]) hx hb d_Long_bitCount_40 rfl hl (by decide) rfl (fun ls hl => ?_)
  refine lv_lload_n hx hb d_Long_bitCount_41 rfl (lv_at hl 0 rfl) ?_
  refine lv_lload_n hx hb d_Long_bitCount_42 rfl (lv_at hl 0 rfl) ?_
  refine lv_bipush (v := nI 16) hx hb d_Long_bitCount_43 (by decide) ?_
  refine lv_lushr (v := ((bL4 8 (bL3 (bL2 (bL1 x)))).toUInt64 >>> ((nI 16).toInt64.toUInt64 &&& Int64.toUInt64 63)).toInt64) hx hb d_Long_bitCount_45 rfl ?_
  refine lv_ladd hx hb d_Long_bitCount_46 ?_
  refine mm_tl (y := bL4 16 (bL4 8 (bL3 (bL2 (bL1 x))))) rfl ?_
  refine lv_lstore_n (lv' := [(0, .long (bL4 16 (bL4 8 (bL3 (bL2 (bL1 x))))))]) hx hb d_Long_bitCount_47 rfl hl (by decide) rfl (fun ls hl => ?_)
  refine lv_lload_n hx hb d_Long_bitCount_48 rfl (lv_at hl 0 rfl) ?_
  refine lv_lload_n hx hb d_Long_bitCount_49 rfl (lv_at hl 0 rfl) ?_
  refine lv_bipush (v := nI 32) hx hb d_Long_bitCount_50 (by decide) ?_
  refine lv_lushr (v := ((bL4 16 (bL4 8 (bL3 (bL2 (bL1 x))))).toUInt64 >>> ((nI 32).toInt64.toUInt64 &&& Int64.toUInt64 63)).toInt64) hx hb d_Long_bitCount_52 rfl ?_
  refine lv_ladd hx hb d_Long_bitCount_53 ?_
  refine mm_tl (y := bL4 32 (bL4 16 (bL4 8 (bL3 (bL2 (bL1 x)))))) rfl ?_
  refine lv_lstore_n (lv' := [(0, .long (bL4 32 (bL4 16 (bL4 8 (bL3 (bL2 (bL1 x)))))))]) hx hb d_Long_bitCount_54 rfl hl (by decide) rfl (fun ls hl => ?_)
  refine lv_lload_n hx hb d_Long_bitCount_55 rfl (lv_at hl 0 rfl) ?_
  refine lv_l2i (v := (bL4 32 (bL4 16 (bL4 8 (bL3 (bL2 (bL1 x)))))).toInt32) hx hb d_Long_bitCount_56 rfl ?_
  refine lv_bipush (v := nI 127) hx hb d_Long_bitCount_57 (by decide) ?_
  refine lv_iand hx hb d_Long_bitCount_59 ?_
  refine mm_ti (y := bcL x) rfl ?_
  exact mm_irS hx hb hr hk d_Long_bitCount_60 rfl
set_option maxHeartbeats 4000000 in
set_option maxRecDepth 100000 in
theorem c_Int_bitCount (l : Launch) (G : mm_G) (n : Nat) (hn : n < 8) : Met l y_Int_bitCount [.code y_Int_bitCount b_Int_bitCount 1 (some .int)] { frames := 0, cells := 0, slots := 0, locals := 0 } (mm_Pre G [.int (nI n)] (fun H => True)) (vp_Si (fun r => r = nI (bcN n))) 0 0 (fun _ => False) := by
  refine mm_of (by decide) (Nat.le_of_ble_eq_true rfl) ?_
  intro p e s m below meth c ls hx hb hr hk hml hown hnm hK _ hl
  have hl : lv_has ls 1 [(0, .int (nI n))] := hl
  refine lv_iload_n hx hb d_Int_bitCount_0 rfl (lv_at hl 0 rfl) ?_
  refine lv_iload_n hx hb d_Int_bitCount_1 rfl (lv_at hl 0 rfl) ?_
  refine lv_iconst hx hb d_Int_bitCount_2 ci_1 ?_
  refine lv_iushr hx hb d_Int_bitCount_3 rfl ?_
  refine lv_ldcw (v := 1431655765) hx hb hown (hK.w kw_722) d_Int_bitCount_4 ?_
  refine mm_ti (y := nI 1431655765) (by decide) ?_
  refine lv_iand hx hb d_Int_bitCount_7 ?_
  refine lv_isub hx hb d_Int_bitCount_8 ?_
  refine mm_ti (y := bI1 (nI n)) rfl ?_
  refine lv_istore_n (lv' := [(0, .int (bI1 (nI n)))]) hx hb d_Int_bitCount_9 rfl hl (by decide) rfl (fun ls hl => ?_)
  refine lv_iload_n hx hb d_Int_bitCount_10 rfl (lv_at hl 0 rfl) ?_
  refine lv_ldcw (v := 858993459) hx hb hown (hK.w kw_723) d_Int_bitCount_11 ?_
  refine mm_ti (y := nI 858993459) (by decide) ?_
  refine lv_iand hx hb d_Int_bitCount_14 ?_
  refine lv_iload_n hx hb d_Int_bitCount_15 rfl (lv_at hl 0 rfl) ?_
  refine lv_iconst hx hb d_Int_bitCount_16 ci_2 ?_
  refine lv_iushr hx hb d_Int_bitCount_17 rfl ?_
  refine lv_ldcw (v := 858993459) hx hb hown (hK.w kw_723) d_Int_bitCount_18 ?_
  refine mm_ti (y := nI 858993459) (by decide) ?_
  refine lv_iand hx hb d_Int_bitCount_21 ?_
  refine lv_iadd hx hb d_Int_bitCount_22 ?_
  refine mm_ti (y := bI2 (bI1 (nI n))) rfl ?_
  refine lv_istore_n (lv' := [(0, .int (bI2 (bI1 (nI n))))]) hx hb d_Int_bitCount_23 rfl hl (by decide) rfl (fun ls hl => ?_)
  refine lv_iload_n hx hb d_Int_bitCount_24 rfl (lv_at hl 0 rfl) ?_
  refine lv_iload_n hx hb d_Int_bitCount_25 rfl (lv_at hl 0 rfl) ?_
  refine lv_iconst hx hb d_Int_bitCount_26 ci_4 ?_
  refine lv_iushr hx hb d_Int_bitCount_27 rfl ?_
  refine lv_iadd hx hb d_Int_bitCount_28 ?_
  refine lv_ldcw (v := 252645135) hx hb hown (hK.w kw_724) d_Int_bitCount_29 ?_
  refine mm_ti (y := nI 252645135) (by decide) ?_
  refine lv_iand hx hb d_Int_bitCount_32 ?_
  refine mm_ti (y := bI3 (bI2 (bI1 (nI n)))) rfl ?_
  refine lv_istore_n (lv' := [(0, .int (bI3 (bI2 (bI1 (nI n)))))]) hx hb d_Int_bitCount_33 rfl hl (by decide) rfl (fun ls hl => ?_)
  refine lv_iload_n hx hb d_Int_bitCount_34 rfl (lv_at hl 0 rfl) ?_
  refine lv_iload_n hx hb d_Int_bitCount_35 rfl (lv_at hl 0 rfl) ?_
  refine lv_bipush (v := nI 8) hx hb d_Int_bitCount_36 (by decide) ?_
  refine lv_iushr hx hb d_Int_bitCount_38 rfl ?_
  refine lv_iadd hx hb d_Int_bitCount_39 ?_
  refine mm_ti (y := bI4 8 (bI3 (bI2 (bI1 (nI n))))) rfl ?_
  refine lv_istore_n (lv' := [(0, .int (bI4 8 (bI3 (bI2 (bI1 (nI n))))))]) hx hb d_Int_bitCount_40 rfl hl (by decide) rfl (fun ls hl => ?_)
  refine lv_iload_n hx hb d_Int_bitCount_41 rfl (lv_at hl 0 rfl) ?_
  refine lv_iload_n hx hb d_Int_bitCount_42 rfl (lv_at hl 0 rfl) ?_
  refine lv_bipush (v := nI 16) hx hb d_Int_bitCount_43 (by decide) ?_
  refine lv_iushr hx hb d_Int_bitCount_45 rfl ?_
  refine lv_iadd hx hb d_Int_bitCount_46 ?_
  refine mm_ti (y := bI4 16 (bI4 8 (bI3 (bI2 (bI1 (nI n)))))) rfl ?_
  refine lv_istore_n (lv' := [(0, .int (bI4 16 (bI4 8 (bI3 (bI2 (bI1 (nI n)))))))]) hx hb d_Int_bitCount_47 rfl hl (by decide) rfl (fun ls hl => ?_)
  refine lv_iload_n hx hb d_Int_bitCount_48 rfl (lv_at hl 0 rfl) ?_
  refine lv_bipush (v := nI 63) hx hb d_Int_bitCount_49 (by decide) ?_
  refine lv_iand hx hb d_Int_bitCount_51 ?_
  refine mm_ti (y := nI (bcN n)) (bcI_lem n hn) ?_
  exact mm_irS hx hb hr hk d_Int_bitCount_52 rfl
set_option maxHeartbeats 4000000 in
set_option maxRecDepth 100000 in
theorem c_Mon_isFull (l : Launch) (G : mm_G) (o la n : Nat) (v0 v1 v2 : Value) (wt : Bool) (hn : n < 100) : Met l y_Mon_isFull [.code y_Mon_isFull b_Mon_isFull 1 (some .boolean)] { frames := 1, cells := 0, slots := 0, locals := 20 } (mm_Pre G [.ref o] (fun H => va_P G.1 cls_all [(o, .inr (10, [.ref la, v1, .int (bI wt)])), (la, .inr (11, [v0, .int (nI n), v2]))] H)) (vp_Si (fun r => r = bI (!mkB wt n))) 0 0 (fun _ => False) := by
  refine mm_of (by decide) (Nat.le_of_ble_eq_true rfl) ?_
  intro p e s m below meth c ls hx hb hr hk hml hown hnm hK hP hl
  have hl : lv_has ls 1 [(0, .ref o)] := hl
  refine lv_aload_n hx hb d_Mon_isFull_0 rfl (lv_at hl 0 rfl) ?_
  refine mm_get (v := .int (bI wt)) hK hx hb hown lg_Mon_39 hP 0 rfl rfl d_Mon_isFull_1 ?_
  refine mm_ifneB hx hb d_Mon_isFull_4 (tgt := 19) (by decide) (fun c4 => ?_) (fun c4 => ?_)
  · refine lv_iconst hx hb d_Mon_isFull_19 ci_1 ?_
    refine lv_goto hx hb d_Mon_isFull_20 (tgt := 24) (by decide) ?_
    exact mm_zrS true (by first | rfl | decide) hx hb hr hk d_Mon_isFull_24 (mk_t (by first | exact Or.inl c4 | exact Or.inr (by omega)))
  · refine lv_aload_n hx hb d_Mon_isFull_7 rfl (lv_at hl 0 rfl) ?_
    refine mm_get (v := .ref la) hK hx hb hown lg_Mon_18 hP 0 rfl rfl d_Mon_isFull_8 ?_
    refine mm_si (mm_runV hK ⟨hx, hb, hml, hown⟩ lk_Mon_29 (c_AL_size l G la v0 v2 n) ⟨rfl, rfl, by decide, by decide⟩ (mm_rc hK hP 1 rfl rfl) (hP.sub (ws' := [(la, .inr (11, [v0, .int (nI n), v2]))]) [1] rfl) rfl hl.1 rfl (Nat.le_of_ble_eq_true rfl) ⟨by decide, by decide⟩ d_Mon_isFull_11) (fun r11 e11 => ?_)
    subst e11
    refine lv_bipush (v := nI 12) hx hb d_Mon_isFull_14 (by decide) ?_
    refine lv_icmp_lt hx hb d_Mon_isFull_16 (tgt := 23) (by decide) (fun c16 => ?_) (fun c16 => ?_)
    · have c16 : n < 12 := nb_ltt (by omega) (by omega) c16
      refine lv_iconst hx hb d_Mon_isFull_23 ci_0 ?_
      exact mm_zrS false (by first | rfl | decide) hx hb hr hk d_Mon_isFull_24 (mk_f (by exact ⟨c4, by omega⟩))
    · have c16 : n ≥ 12 := nb_ltf (by omega) (by omega) c16
      refine lv_iconst hx hb d_Mon_isFull_19 ci_1 ?_
      refine lv_goto hx hb d_Mon_isFull_20 (tgt := 24) (by decide) ?_
      exact mm_zrS true (by first | rfl | decide) hx hb hr hk d_Mon_isFull_24 (mk_t (by first | exact Or.inl c4 | exact Or.inr (by omega)))
set_option maxHeartbeats 4000000 in
set_option maxRecDepth 100000 in
theorem c_Mon_formulaO (l : Launch) (G : mm_G) (o la n : Nat) (v0 v1 v2 v3 : Value) (f : Int32) (hf : fmB f n = false) (hn : n < 100) : Met l y_Mon_formula [.code y_Mon_formula b_Mon_formula 2 (some (.object "MetricLogMonitor$Formula"))] { frames := 1, cells := 0, slots := 0, locals := 20 } (mm_Pre G [.ref o, .int f] (fun H => va_P G.1 cls_all [(o, .inr (10, [.ref la, v1, v3])), (la, .inr (11, [v0, .int (nI n), v2]))] H)) (va_Sq (fun r => r = none)) 0 0 (fun _ => False) := by
  refine mm_of (by decide) (Nat.le_of_ble_eq_true rfl) ?_
  intro p e s m below meth c ls hx hb hr hk hml hown hnm hK hP hl
  have hl : lv_has ls 2 [(0, .ref o), (1, .int f)] := hl
  have hf : ¬ (0 ≤ f.toInt ∧ f.toInt < (n : Int)) := of_decide_eq_false hf
  refine lv_iload_n hx hb d_Mon_formula_0 rfl (lv_at hl 1 rfl) ?_
  refine lv_if_lt hx hb d_Mon_formula_1 (tgt := 29) (by decide) (fun c1 => ?_) (fun c1 => ?_)
  · rw [Int32.lt_iff_toInt_lt, Int32.toInt_zero] at c1
    refine lv_null hx hb d_Mon_formula_29 ?_
    exact mm_arS none rfl hx hb hr (Or.inl ⟨_, rfl⟩) hk d_Mon_formula_30 rfl
  · rw [Int32.lt_iff_toInt_lt, Int32.toInt_zero] at c1
    refine lv_iload_n hx hb d_Mon_formula_4 rfl (lv_at hl 1 rfl) ?_
    refine lv_aload_n hx hb d_Mon_formula_5 rfl (lv_at hl 0 rfl) ?_
    refine mm_get (v := .ref la) hK hx hb hown lg_Mon_18 hP 0 rfl rfl d_Mon_formula_6 ?_
    refine mm_si (mm_runV hK ⟨hx, hb, hml, hown⟩ lk_Mon_29 (c_AL_size l G la v0 v2 n) ⟨rfl, rfl, by decide, by decide⟩ (mm_rc hK hP 1 rfl rfl) (hP.sub (ws' := [(la, .inr (11, [v0, .int (nI n), v2]))]) [1] rfl) rfl hl.1 rfl (Nat.le_of_ble_eq_true rfl) ⟨by decide, by decide⟩ d_Mon_formula_9) (fun r9 e9 => ?_)
    subst e9
    refine lv_icmp_ge hx hb d_Mon_formula_12 (tgt := 29) (by decide) (fun c12 => ?_) (fun c12 => ?_)
    · rw [Int32.le_iff_toInt_le, nI_toInt (n := n) (by omega)] at c12
      refine lv_null hx hb d_Mon_formula_29 ?_
      exact mm_arS none rfl hx hb hr (Or.inl ⟨_, rfl⟩) hk d_Mon_formula_30 rfl
    · rw [Int32.le_iff_toInt_le, nI_toInt (n := n) (by omega)] at c12
      exfalso; omega
set_option maxHeartbeats 4000000 in
set_option maxRecDepth 100000 in
theorem c_Mon_formulaI (l : Launch) (G : mm_G) (o la ea cap n : Nat) (v1 v3 : Value) (mcn : Int32) (g : Nat → Option Nat) (i qn ck : Nat) (w0 w1 w2 w3 w4 w5 w6 : Value) (ex : List Value) (hck : ck < 8) (hi : i < n) (hn : n ≤ cap) (hcap : cap < 100) (hg : g i = some qn) : Met l y_Mon_formula [.code y_Mon_formula b_Mon_formula 2 (some (.object "MetricLogMonitor$Formula"))] { frames := 3, cells := 0, slots := 0, locals := 64 } (mm_Pre G [.ref o, .int (nI i)] (fun H => va_P G.1 cls_all [(o, .inr (10, [.ref la, v1, v3])), (la, .inr (11, [.ref ea, .int (nI n), .int mcn])), (ea, .inl (G.2.1 4, cap, .inr (.inr (.inr (.inr g))))), (qn, .inr (ck, [w0, w1, w2, w3, w4, w5, w6] ++ ex))] H)) (va_Sq (fun r => r = some qn)) 0 0 (fun _ => False) := by
  refine mm_of (by decide) (Nat.le_of_ble_eq_true rfl) ?_
  intro p e s m below meth c ls hx hb hr hk hml hown hnm hK hP hl
  have hl : lv_has ls 2 [(0, .ref o), (1, .int (nI i))] := hl
  refine lv_iload_n hx hb d_Mon_formula_0 rfl (lv_at hl 1 rfl) ?_
  refine lv_if_lt hx hb d_Mon_formula_1 (tgt := 29) (by decide) (fun h9 => by have h9 : i < 0 := nb_zltt (by omega) h9; exfalso; omega) (fun c1 => ?_)
  have c1 : i ≥ 0 := nb_zltf (by omega) c1
  refine lv_iload_n hx hb d_Mon_formula_4 rfl (lv_at hl 1 rfl) ?_
  refine lv_aload_n hx hb d_Mon_formula_5 rfl (lv_at hl 0 rfl) ?_
  refine mm_get (v := .ref la) hK hx hb hown lg_Mon_18 hP 0 rfl rfl d_Mon_formula_6 ?_
  refine mm_si (mm_runV hK ⟨hx, hb, hml, hown⟩ lk_Mon_29 (c_AL_size l G la (.ref ea) (.int mcn) n) ⟨rfl, rfl, by decide, by decide⟩ (mm_rc hK hP 1 rfl rfl) (hP.sub (ws' := [(la, .inr (11, [.ref ea, .int (nI n), .int mcn]))]) [1] rfl) rfl hl.1 rfl (Nat.le_of_ble_eq_true rfl) ⟨by decide, by decide⟩ d_Mon_formula_9) (fun r9 e9 => ?_)
  subst e9
  refine lv_icmp_ge hx hb d_Mon_formula_12 (tgt := 29) (by decide) (fun h9 => by have h9 : i ≥ n := nb_get (by omega) (by omega) h9; exfalso; omega) (fun c12 => ?_)
  have c12 : i < n := nb_gef (by omega) (by omega) c12
  refine lv_aload_n hx hb d_Mon_formula_15 rfl (lv_at hl 0 rfl) ?_
  refine mm_get (v := .ref la) hK hx hb hown lg_Mon_18 hP 0 rfl rfl d_Mon_formula_16 ?_
  refine lv_iload_n hx hb d_Mon_formula_19 rfl (lv_at hl 1 rfl) ?_
  refine mm_sq (mm_runV hK ⟨hx, hb, hml, hown⟩ lk_Mon_33 (c_AL_get l G la ea cap n mcn g i hi hn hcap) ⟨rfl, rfl, by decide, by decide⟩ (mm_rc hK hP 1 rfl rfl) (hP.sub (ws' := [(la, .inr (11, [.ref ea, .int (nI n), .int mcn])), (ea, .inl (G.2.1 4, cap, .inr (.inr (.inr (.inr g)))))]) [1, 2] rfl) rfl hl.1 rfl (Nat.le_of_ble_eq_true rfl) ⟨by decide, by decide⟩ d_Mon_formula_20) (fun r20 e20 => ?_)
  subst e20
  refine mm_tv (show va_rf (g i) = .ref qn by rw [hg]; rfl) ?_
  refine mm_castF hK hx hb hown kw_366 (hP 3 _ rfl) hck d_Mon_formula_23 ?_
  refine lv_goto hx hb d_Mon_formula_26 (tgt := 30) (by decide) ?_
  exact mm_arS (some qn) rfl hx hb hr (Or.inl ⟨_, rfl⟩) hk d_Mon_formula_30 rfl
set_option maxHeartbeats 4000000 in
set_option maxRecDepth 100000 in
theorem c_Mon_freeI (l : Launch) (G : mm_G) (o la ea cap n : Nat) (v1 v3 : Value) (mcn : Int32) (g : Nat → Option Nat) (i qn ck : Nat) (w0 w1 w3 w4 w5 w6 : Value) (y : Nat) (ex : List Value) (hck : ck < 8) (hi : i < n) (hn : n ≤ cap) (hcap : cap < 100) (hg : g i = some qn) : Met l y_Mon_free [.code y_Mon_free b_Mon_free 3 (some .int)] { frames := 4, cells := 0, slots := 0, locals := 85 } (mm_Pre G [.ref o, .int (nI i)] (fun H => va_P G.1 cls_all [(o, .inr (10, [.ref la, v1, v3])), (la, .inr (11, [.ref ea, .int (nI n), .int mcn])), (ea, .inl (G.2.1 4, cap, .inr (.inr (.inr (.inr g))))), (qn, .inr (ck, [w0, w1, .int (nI y), w3, w4, w5, w6] ++ ex))] H)) (vp_Si (fun r => r = nI y)) 0 0 (fun _ => False) := by
  refine mm_of (by decide) (Nat.le_of_ble_eq_true rfl) ?_
  intro p e s m below meth c ls hx hb hr hk hml hown hnm hK hP hl
  have hl : lv_has ls 3 [(0, .ref o), (1, .int (nI i))] := hl
  refine lv_aload_n hx hb d_Mon_free_0 rfl (lv_at hl 0 rfl) ?_
  refine lv_iload_n hx hb d_Mon_free_1 rfl (lv_at hl 1 rfl) ?_
  refine mm_sq (mm_runV hK ⟨hx, hb, hml, hown⟩ lk_Mon_69 (c_Mon_formulaI l G o la ea cap n v1 v3 mcn g i qn ck (w0) (w1) (.int (nI y)) (w3) (w4) (w5) (w6) ex hck hi hn hcap hg) ⟨rfl, rfl, by decide, by decide⟩ (mm_rc hK hP 0 rfl rfl) (hP.sub (ws' := [(o, .inr (10, [.ref la, v1, v3])), (la, .inr (11, [.ref ea, .int (nI n), .int mcn])), (ea, .inl (G.2.1 4, cap, .inr (.inr (.inr (.inr g))))), (qn, .inr (ck, [w0, w1, .int (nI y), w3, w4, w5, w6] ++ ex))]) [0, 1, 2, 3] rfl) rfl hl.1 rfl (Nat.le_of_ble_eq_true rfl) ⟨by decide, by decide⟩ d_Mon_free_2) (fun r2 e2 => ?_)
  subst e2
  refine lv_astore_n (lv' := [(2, .ref qn), (0, .ref o), (1, .int (nI i))]) hx hb d_Mon_free_5 rfl hl (by decide) rfl (fun ls hl => ?_)
  refine lv_aload_n hx hb d_Mon_free_6 rfl (lv_at hl 0 rfl) ?_
  refine lv_ifnonnull hx hb d_Mon_free_7 (tgt := 14) (by decide) ?_
  refine lv_aload_n hx hb d_Mon_free_14 rfl (lv_at hl 0 rfl) ?_
  refine mm_get (v := .int (nI y)) hK hx hb hown (lg_Mon_110 ck hck) hP 3 rfl rfl d_Mon_free_15 ?_
  exact mm_irS hx hb hr hk d_Mon_free_18 rfl
set_option maxHeartbeats 4000000 in
set_option maxRecDepth 100000 in
theorem c_Mon_freeO (l : Launch) (G : mm_G) (o la n : Nat) (v0 v1 v2 v3 : Value) (f : Int32) (hf : fmB f n = false) (hn : n < 100) : Met l y_Mon_free [.code y_Mon_free b_Mon_free 3 (some .int)] { frames := 2, cells := 0, slots := 0, locals := 41 } (mm_Pre G [.ref o, .int f] (fun H => va_P G.1 cls_all [(o, .inr (10, [.ref la, v1, v3])), (la, .inr (11, [v0, .int (nI n), v2]))] H)) (vp_Si (fun r => r = (-1))) 0 0 (fun _ => False) := by
  refine mm_of (by decide) (Nat.le_of_ble_eq_true rfl) ?_
  intro p e s m below meth c ls hx hb hr hk hml hown hnm hK hP hl
  have hl : lv_has ls 3 [(0, .ref o), (1, .int f)] := hl
  refine lv_aload_n hx hb d_Mon_free_0 rfl (lv_at hl 0 rfl) ?_
  refine lv_iload_n hx hb d_Mon_free_1 rfl (lv_at hl 1 rfl) ?_
  refine mm_sq (mm_runV hK ⟨hx, hb, hml, hown⟩ lk_Mon_69 (c_Mon_formulaO l G o la n v0 v1 v2 v3 f hf hn) ⟨rfl, rfl, by decide, by decide⟩ (mm_rc hK hP 0 rfl rfl) hP rfl hl.1 rfl (Nat.le_of_ble_eq_true rfl) ⟨by decide, by decide⟩ d_Mon_free_2) (fun r2 e2 => ?_)
  subst e2
  refine lv_astore_nN (lv' := [(2, .null), (0, .ref o), (1, .int f)]) hx hb d_Mon_free_5 rfl hl (by decide) rfl (fun ls hl => ?_)
  refine lv_aload_nN hx hb d_Mon_free_6 rfl (lv_at hl 0 rfl) ?_
  refine lv_ifnonnullN hx hb d_Mon_free_7 ?_
  refine lv_iconst hx hb d_Mon_free_10 ci_m1 ?_
  refine lv_goto hx hb d_Mon_free_11 (tgt := 18) (by decide) ?_
  exact mm_irS hx hb hr hk d_Mon_free_18 rfl
set_option maxHeartbeats 4000000 in
set_option maxRecDepth 100000 in
theorem c_Mon_rangedI (l : Launch) (G : mm_G) (o la ea cap n : Nat) (v1 v3 : Value) (mcn : Int32) (g : Nat → Option Nat) (i qn ck : Nat) (w0 w1 w2 w4 w5 w6 : Value) (y : Nat) (ex : List Value) (hck : ck < 8) (hi : i < n) (hn : n ≤ cap) (hcap : cap < 100) (hg : g i = some qn) : Met l y_Mon_ranged [.code y_Mon_ranged b_Mon_ranged 3 (some .int)] { frames := 4, cells := 0, slots := 0, locals := 85 } (mm_Pre G [.ref o, .int (nI i)] (fun H => va_P G.1 cls_all [(o, .inr (10, [.ref la, v1, v3])), (la, .inr (11, [.ref ea, .int (nI n), .int mcn])), (ea, .inl (G.2.1 4, cap, .inr (.inr (.inr (.inr g))))), (qn, .inr (ck, [w0, w1, w2, .int (nI y), w4, w5, w6] ++ ex))] H)) (vp_Si (fun r => r = nI y)) 0 0 (fun _ => False) := by
  refine mm_of (by decide) (Nat.le_of_ble_eq_true rfl) ?_
  intro p e s m below meth c ls hx hb hr hk hml hown hnm hK hP hl
  have hl : lv_has ls 3 [(0, .ref o), (1, .int (nI i))] := hl
  refine lv_aload_n hx hb d_Mon_ranged_0 rfl (lv_at hl 0 rfl) ?_
  refine lv_iload_n hx hb d_Mon_ranged_1 rfl (lv_at hl 1 rfl) ?_
  refine mm_sq (mm_runV hK ⟨hx, hb, hml, hown⟩ lk_Mon_69 (c_Mon_formulaI l G o la ea cap n v1 v3 mcn g i qn ck (w0) (w1) (w2) (.int (nI y)) (w4) (w5) (w6) ex hck hi hn hcap hg) ⟨rfl, rfl, by decide, by decide⟩ (mm_rc hK hP 0 rfl rfl) (hP.sub (ws' := [(o, .inr (10, [.ref la, v1, v3])), (la, .inr (11, [.ref ea, .int (nI n), .int mcn])), (ea, .inl (G.2.1 4, cap, .inr (.inr (.inr (.inr g))))), (qn, .inr (ck, [w0, w1, w2, .int (nI y), w4, w5, w6] ++ ex))]) [0, 1, 2, 3] rfl) rfl hl.1 rfl (Nat.le_of_ble_eq_true rfl) ⟨by decide, by decide⟩ d_Mon_ranged_2) (fun r2 e2 => ?_)
  subst e2
  refine lv_astore_n (lv' := [(2, .ref qn), (0, .ref o), (1, .int (nI i))]) hx hb d_Mon_ranged_5 rfl hl (by decide) rfl (fun ls hl => ?_)
  refine lv_aload_n hx hb d_Mon_ranged_6 rfl (lv_at hl 0 rfl) ?_
  refine lv_ifnonnull hx hb d_Mon_ranged_7 (tgt := 14) (by decide) ?_
  refine lv_aload_n hx hb d_Mon_ranged_14 rfl (lv_at hl 0 rfl) ?_
  refine mm_get (v := .int (nI y)) hK hx hb hown (lg_Mon_114 ck hck) hP 3 rfl rfl d_Mon_ranged_15 ?_
  exact mm_irS hx hb hr hk d_Mon_ranged_18 rfl
set_option maxHeartbeats 4000000 in
set_option maxRecDepth 100000 in
theorem c_Mon_rangedO (l : Launch) (G : mm_G) (o la n : Nat) (v0 v1 v2 v3 : Value) (f : Int32) (hf : fmB f n = false) (hn : n < 100) : Met l y_Mon_ranged [.code y_Mon_ranged b_Mon_ranged 3 (some .int)] { frames := 2, cells := 0, slots := 0, locals := 41 } (mm_Pre G [.ref o, .int f] (fun H => va_P G.1 cls_all [(o, .inr (10, [.ref la, v1, v3])), (la, .inr (11, [v0, .int (nI n), v2]))] H)) (vp_Si (fun r => r = (-1))) 0 0 (fun _ => False) := by
  refine mm_of (by decide) (Nat.le_of_ble_eq_true rfl) ?_
  intro p e s m below meth c ls hx hb hr hk hml hown hnm hK hP hl
  have hl : lv_has ls 3 [(0, .ref o), (1, .int f)] := hl
  refine lv_aload_n hx hb d_Mon_ranged_0 rfl (lv_at hl 0 rfl) ?_
  refine lv_iload_n hx hb d_Mon_ranged_1 rfl (lv_at hl 1 rfl) ?_
  refine mm_sq (mm_runV hK ⟨hx, hb, hml, hown⟩ lk_Mon_69 (c_Mon_formulaO l G o la n v0 v1 v2 v3 f hf hn) ⟨rfl, rfl, by decide, by decide⟩ (mm_rc hK hP 0 rfl rfl) hP rfl hl.1 rfl (Nat.le_of_ble_eq_true rfl) ⟨by decide, by decide⟩ d_Mon_ranged_2) (fun r2 e2 => ?_)
  subst e2
  refine lv_astore_nN (lv' := [(2, .null), (0, .ref o), (1, .int f)]) hx hb d_Mon_ranged_5 rfl hl (by decide) rfl (fun ls hl => ?_)
  refine lv_aload_nN hx hb d_Mon_ranged_6 rfl (lv_at hl 0 rfl) ?_
  refine lv_ifnonnullN hx hb d_Mon_ranged_7 ?_
  refine lv_iconst hx hb d_Mon_ranged_10 ci_m1 ?_
  refine lv_goto hx hb d_Mon_ranged_11 (tgt := 18) (by decide) ?_
  exact mm_irS hx hb hr hk d_Mon_ranged_18 rfl
set_option maxHeartbeats 4000000 in
set_option maxRecDepth 100000 in
theorem c_Mon_progressI (l : Launch) (G : mm_G) (o la ea cap n : Nat) (v1 v3 : Value) (mcn : Int32) (g : Nat → Option Nat) (i qn ck : Nat) (w0 w1 w2 w3 w4 w5 : Value) (y : Nat) (ex : List Value) (hck : ck < 8) (hi : i < n) (hn : n ≤ cap) (hcap : cap < 100) (hg : g i = some qn) : Met l y_Mon_progress [.code y_Mon_progress b_Mon_progress 3 (some .int)] { frames := 4, cells := 0, slots := 0, locals := 85 } (mm_Pre G [.ref o, .int (nI i)] (fun H => va_P G.1 cls_all [(o, .inr (10, [.ref la, v1, v3])), (la, .inr (11, [.ref ea, .int (nI n), .int mcn])), (ea, .inl (G.2.1 4, cap, .inr (.inr (.inr (.inr g))))), (qn, .inr (ck, [w0, w1, w2, w3, w4, w5, .int (nI y)] ++ ex))] H)) (vp_Si (fun r => r = nI y)) 0 0 (fun _ => False) := by
  refine mm_of (by decide) (Nat.le_of_ble_eq_true rfl) ?_
  intro p e s m below meth c ls hx hb hr hk hml hown hnm hK hP hl
  have hl : lv_has ls 3 [(0, .ref o), (1, .int (nI i))] := hl
  refine lv_aload_n hx hb d_Mon_progress_0 rfl (lv_at hl 0 rfl) ?_
  refine lv_iload_n hx hb d_Mon_progress_1 rfl (lv_at hl 1 rfl) ?_
  refine mm_sq (mm_runV hK ⟨hx, hb, hml, hown⟩ lk_Mon_69 (c_Mon_formulaI l G o la ea cap n v1 v3 mcn g i qn ck (w0) (w1) (w2) (w3) (w4) (w5) (.int (nI y)) ex hck hi hn hcap hg) ⟨rfl, rfl, by decide, by decide⟩ (mm_rc hK hP 0 rfl rfl) (hP.sub (ws' := [(o, .inr (10, [.ref la, v1, v3])), (la, .inr (11, [.ref ea, .int (nI n), .int mcn])), (ea, .inl (G.2.1 4, cap, .inr (.inr (.inr (.inr g))))), (qn, .inr (ck, [w0, w1, w2, w3, w4, w5, .int (nI y)] ++ ex))]) [0, 1, 2, 3] rfl) rfl hl.1 rfl (Nat.le_of_ble_eq_true rfl) ⟨by decide, by decide⟩ d_Mon_progress_2) (fun r2 e2 => ?_)
  subst e2
  refine lv_astore_n (lv' := [(2, .ref qn), (0, .ref o), (1, .int (nI i))]) hx hb d_Mon_progress_5 rfl hl (by decide) rfl (fun ls hl => ?_)
  refine lv_aload_n hx hb d_Mon_progress_6 rfl (lv_at hl 0 rfl) ?_
  refine lv_ifnonnull hx hb d_Mon_progress_7 (tgt := 14) (by decide) ?_
  refine lv_aload_n hx hb d_Mon_progress_14 rfl (lv_at hl 0 rfl) ?_
  refine mm_get (v := .int (nI y)) hK hx hb hown (lg_Mon_167 ck hck) hP 3 rfl rfl d_Mon_progress_15 ?_
  exact mm_irS hx hb hr hk d_Mon_progress_18 rfl
set_option maxHeartbeats 4000000 in
set_option maxRecDepth 100000 in
theorem c_Mon_progressO (l : Launch) (G : mm_G) (o la n : Nat) (v0 v1 v2 v3 : Value) (f : Int32) (hf : fmB f n = false) (hn : n < 100) : Met l y_Mon_progress [.code y_Mon_progress b_Mon_progress 3 (some .int)] { frames := 2, cells := 0, slots := 0, locals := 41 } (mm_Pre G [.ref o, .int f] (fun H => va_P G.1 cls_all [(o, .inr (10, [.ref la, v1, v3])), (la, .inr (11, [v0, .int (nI n), v2]))] H)) (vp_Si (fun r => r = (-1))) 0 0 (fun _ => False) := by
  refine mm_of (by decide) (Nat.le_of_ble_eq_true rfl) ?_
  intro p e s m below meth c ls hx hb hr hk hml hown hnm hK hP hl
  have hl : lv_has ls 3 [(0, .ref o), (1, .int f)] := hl
  refine lv_aload_n hx hb d_Mon_progress_0 rfl (lv_at hl 0 rfl) ?_
  refine lv_iload_n hx hb d_Mon_progress_1 rfl (lv_at hl 1 rfl) ?_
  refine mm_sq (mm_runV hK ⟨hx, hb, hml, hown⟩ lk_Mon_69 (c_Mon_formulaO l G o la n v0 v1 v2 v3 f hf hn) ⟨rfl, rfl, by decide, by decide⟩ (mm_rc hK hP 0 rfl rfl) hP rfl hl.1 rfl (Nat.le_of_ble_eq_true rfl) ⟨by decide, by decide⟩ d_Mon_progress_2) (fun r2 e2 => ?_)
  subst e2
  refine lv_astore_nN (lv' := [(2, .null), (0, .ref o), (1, .int f)]) hx hb d_Mon_progress_5 rfl hl (by decide) rfl (fun ls hl => ?_)
  refine lv_aload_nN hx hb d_Mon_progress_6 rfl (lv_at hl 0 rfl) ?_
  refine lv_ifnonnullN hx hb d_Mon_progress_7 ?_
  refine lv_iconst hx hb d_Mon_progress_10 ci_m1 ?_
  refine lv_goto hx hb d_Mon_progress_11 (tgt := 18) (by decide) ?_
  exact mm_irS hx hb hr hk d_Mon_progress_18 rfl
set_option maxHeartbeats 4000000 in
set_option maxRecDepth 100000 in
theorem c_Mon_boundedI (l : Launch) (G : mm_G) (o la ea cap n : Nat) (v1 v3 : Value) (mcn : Int32) (g : Nat → Option Nat) (i qn ck : Nat) (w0 w1 w5 w6 : Value) (y z : Nat) (cl : Bool) (hy : y < 8) (hz : z < 8) (ex : List Value) (hck : ck < 8) (hi : i < n) (hn : n ≤ cap) (hcap : cap < 100) (hg : g i = some qn) : Met l y_Mon_bounded [.code y_Mon_bounded b_Mon_bounded 3 (some .boolean)] { frames := 4, cells := 0, slots := 0, locals := 85 } (mm_Pre G [.ref o, .int (nI i)] (fun H => va_P G.1 cls_all [(o, .inr (10, [.ref la, v1, v3])), (la, .inr (11, [.ref ea, .int (nI n), .int mcn])), (ea, .inl (G.2.1 4, cap, .inr (.inr (.inr (.inr g))))), (qn, .inr (ck, [w0, w1, .int (nI y), .int (nI z), .int (bI cl), w5, w6] ++ ex))] H)) (vp_Si (fun r => r = bI (cl && decide (y &&& z = y)))) 0 0 (fun _ => False) := by
  refine mm_of (by decide) (Nat.le_of_ble_eq_true rfl) ?_
  intro p e s m below meth c ls hx hb hr hk hml hown hnm hK hP hl
  have hl : lv_has ls 3 [(0, .ref o), (1, .int (nI i))] := hl
  refine lv_aload_n hx hb d_Mon_bounded_0 rfl (lv_at hl 0 rfl) ?_
  refine lv_iload_n hx hb d_Mon_bounded_1 rfl (lv_at hl 1 rfl) ?_
  refine mm_sq (mm_runV hK ⟨hx, hb, hml, hown⟩ lk_Mon_69 (c_Mon_formulaI l G o la ea cap n v1 v3 mcn g i qn ck (w0) (w1) (.int (nI y)) (.int (nI z)) (.int (bI cl)) (w5) (w6) ex hck hi hn hcap hg) ⟨rfl, rfl, by decide, by decide⟩ (mm_rc hK hP 0 rfl rfl) (hP.sub (ws' := [(o, .inr (10, [.ref la, v1, v3])), (la, .inr (11, [.ref ea, .int (nI n), .int mcn])), (ea, .inl (G.2.1 4, cap, .inr (.inr (.inr (.inr g))))), (qn, .inr (ck, [w0, w1, .int (nI y), .int (nI z), .int (bI cl), w5, w6] ++ ex))]) [0, 1, 2, 3] rfl) rfl hl.1 rfl (Nat.le_of_ble_eq_true rfl) ⟨by decide, by decide⟩ d_Mon_bounded_2) (fun r2 e2 => ?_)
  subst e2
  refine lv_astore_n (lv' := [(2, .ref qn), (0, .ref o), (1, .int (nI i))]) hx hb d_Mon_bounded_5 rfl hl (by decide) rfl (fun ls hl => ?_)
  refine lv_aload_n hx hb d_Mon_bounded_6 rfl (lv_at hl 0 rfl) ?_
  refine lv_ifnull hx hb d_Mon_bounded_7 ?_
  refine lv_aload_n hx hb d_Mon_bounded_10 rfl (lv_at hl 0 rfl) ?_
  refine mm_get (v := .int (bI cl)) hK hx hb hown (lg_Mon_117 ck hck) hP 3 rfl rfl d_Mon_bounded_11 ?_
  refine mm_ifeqB hx hb d_Mon_bounded_14 (tgt := 35) (by decide) (fun c14 => ?_) (fun c14 => ?_)
  · refine lv_iconst hx hb d_Mon_bounded_35 ci_0 ?_
    exact mm_zrS false (by first | rfl | decide) hx hb hr hk d_Mon_bounded_36 (bd_f (by first | exact Or.inl c14 | exact Or.inr c28))
  · refine lv_aload_n hx hb d_Mon_bounded_17 rfl (lv_at hl 0 rfl) ?_
    refine mm_get (v := .int (nI y)) hK hx hb hown (lg_Mon_110 ck hck) hP 3 rfl rfl d_Mon_bounded_18 ?_
    refine lv_aload_n hx hb d_Mon_bounded_21 rfl (lv_at hl 0 rfl) ?_
    refine mm_get (v := .int (nI z)) hK hx hb hown (lg_Mon_114 ck hck) hP 3 rfl rfl d_Mon_bounded_22 ?_
    refine lv_iconst hx hb d_Mon_bounded_25 ci_m1 ?_
    refine lv_ixor hx hb d_Mon_bounded_26 ?_
    refine lv_iand hx hb d_Mon_bounded_27 ?_
    refine mm_ti (y := nI (y - (y &&& z))) (bd_lem y hy z hz) ?_
    refine lv_if_ne hx hb d_Mon_bounded_28 (tgt := 35) (by decide) (fun c28 => ?_) (fun c28 => ?_)
    · have c28 : y - (y &&& z) ≠ 0 := nb_znet (by omega) c28
      refine lv_iconst hx hb d_Mon_bounded_35 ci_0 ?_
      exact mm_zrS false (by first | rfl | decide) hx hb hr hk d_Mon_bounded_36 (bd_f (by first | exact Or.inl c14 | exact Or.inr c28))
    · have c28 : y - (y &&& z) = 0 := nb_znef (by omega) c28
      refine lv_iconst hx hb d_Mon_bounded_31 ci_1 ?_
      refine lv_goto hx hb d_Mon_bounded_32 (tgt := 36) (by decide) ?_
      exact mm_zrS true (by first | rfl | decide) hx hb hr hk d_Mon_bounded_36 (bd_t c14 c28)
set_option maxHeartbeats 4000000 in
set_option maxRecDepth 100000 in
theorem c_Mon_boundedO (l : Launch) (G : mm_G) (o la n : Nat) (v0 v1 v2 v3 : Value) (f : Int32) (hf : fmB f n = false) (hn : n < 100) : Met l y_Mon_bounded [.code y_Mon_bounded b_Mon_bounded 3 (some .boolean)] { frames := 2, cells := 0, slots := 0, locals := 41 } (mm_Pre G [.ref o, .int f] (fun H => va_P G.1 cls_all [(o, .inr (10, [.ref la, v1, v3])), (la, .inr (11, [v0, .int (nI n), v2]))] H)) (vp_Si (fun r => r = bI false)) 0 0 (fun _ => False) := by
  refine mm_of (by decide) (Nat.le_of_ble_eq_true rfl) ?_
  intro p e s m below meth c ls hx hb hr hk hml hown hnm hK hP hl
  have hl : lv_has ls 3 [(0, .ref o), (1, .int f)] := hl
  refine lv_aload_n hx hb d_Mon_bounded_0 rfl (lv_at hl 0 rfl) ?_
  refine lv_iload_n hx hb d_Mon_bounded_1 rfl (lv_at hl 1 rfl) ?_
  refine mm_sq (mm_runV hK ⟨hx, hb, hml, hown⟩ lk_Mon_69 (c_Mon_formulaO l G o la n v0 v1 v2 v3 f hf hn) ⟨rfl, rfl, by decide, by decide⟩ (mm_rc hK hP 0 rfl rfl) hP rfl hl.1 rfl (Nat.le_of_ble_eq_true rfl) ⟨by decide, by decide⟩ d_Mon_bounded_2) (fun r2 e2 => ?_)
  subst e2
  refine lv_astore_nN (lv' := [(2, .null), (0, .ref o), (1, .int f)]) hx hb d_Mon_bounded_5 rfl hl (by decide) rfl (fun ls hl => ?_)
  refine lv_aload_nN hx hb d_Mon_bounded_6 rfl (lv_at hl 0 rfl) ?_
  refine lv_ifnullN hx hb d_Mon_bounded_7 (tgt := 35) (by decide) ?_
  refine lv_iconst hx hb d_Mon_bounded_35 ci_0 ?_
  exact mm_zrS false (by first | rfl | decide) hx hb hr hk d_Mon_bounded_36 rfl
set_option maxHeartbeats 4000000 in
set_option maxRecDepth 100000 in
theorem c_Mon_satisfiedI (l : Launch) (G : mm_G) (o la ea cap n : Nat) (v1 v3 : Value) (mcn : Int32) (g : Nat → Option Nat) (i qn ck : Nat) (w0 w1 w2 w3 w4 : Value) (sa y : Nat) (S : Nat → Int64) (j : Nat) (hj : j < y) (hy : y ≤ 24) (ex : List Value) (hck : ck < 8) (hi : i < n) (hn : n ≤ cap) (hcap : cap < 100) (hg : g i = some qn) : Met l y_Mon_satisfied [.code y_Mon_satisfied b_Mon_satisfied 4 (some .long)] { frames := 4, cells := 0, slots := 0, locals := 85 } (mm_Pre G [.ref o, .int (nI i), .int (nI j)] (fun H => va_P G.1 cls_all [(o, .inr (10, [.ref la, v1, v3])), (la, .inr (11, [.ref ea, .int (nI n), .int mcn])), (ea, .inl (G.2.1 4, cap, .inr (.inr (.inr (.inr g))))), (qn, .inr (ck, [w0, w1, w2, w3, w4, .ref sa, .int (nI y)] ++ ex)), (sa, .inl (G.2.1 1, 24, .inr (.inl S)))] H)) (vp_Sl (fun r => r = S j)) 0 0 (fun _ => False) := by
  refine mm_of (by decide) (Nat.le_of_ble_eq_true rfl) ?_
  intro p e s m below meth c ls hx hb hr hk hml hown hnm hK hP hl
  have hl : lv_has ls 4 [(0, .ref o), (1, .int (nI i)), (2, .int (nI j))] := hl
  refine lv_aload_n hx hb d_Mon_satisfied_0 rfl (lv_at hl 0 rfl) ?_
  refine lv_iload_n hx hb d_Mon_satisfied_1 rfl (lv_at hl 1 rfl) ?_
  refine mm_sq (mm_runV hK ⟨hx, hb, hml, hown⟩ lk_Mon_69 (c_Mon_formulaI l G o la ea cap n v1 v3 mcn g i qn ck (w0) (w1) (w2) (w3) (w4) (.ref sa) (.int (nI y)) ex hck hi hn hcap hg) ⟨rfl, rfl, by decide, by decide⟩ (mm_rc hK hP 0 rfl rfl) (hP.sub (ws' := [(o, .inr (10, [.ref la, v1, v3])), (la, .inr (11, [.ref ea, .int (nI n), .int mcn])), (ea, .inl (G.2.1 4, cap, .inr (.inr (.inr (.inr g))))), (qn, .inr (ck, [w0, w1, w2, w3, w4, .ref sa, .int (nI y)] ++ ex))]) [0, 1, 2, 3] rfl) rfl hl.1 rfl (Nat.le_of_ble_eq_true rfl) ⟨by decide, by decide⟩ d_Mon_satisfied_2) (fun r2 e2 => ?_)
  subst e2
  refine lv_astore_n (lv' := [(3, .ref qn), (0, .ref o), (1, .int (nI i)), (2, .int (nI j))]) hx hb d_Mon_satisfied_5 rfl hl (by decide) rfl (fun ls hl => ?_)
  refine lv_aload_n hx hb d_Mon_satisfied_6 rfl (lv_at hl 0 rfl) ?_
  refine lv_ifnull hx hb d_Mon_satisfied_7 ?_
  refine lv_iload_n hx hb d_Mon_satisfied_10 rfl (lv_at hl 3 rfl) ?_
  refine lv_if_lt hx hb d_Mon_satisfied_11 (tgt := 22) (by decide) (fun h9 => by have h9 : j < 0 := nb_zltt (by omega) h9; exfalso; omega) (fun c11 => ?_)
  have c11 : j ≥ 0 := nb_zltf (by omega) c11
  refine lv_iload_n hx hb d_Mon_satisfied_14 rfl (lv_at hl 3 rfl) ?_
  refine lv_aload_n hx hb d_Mon_satisfied_15 rfl (lv_at hl 0 rfl) ?_
  refine mm_get (v := .int (nI y)) hK hx hb hown (lg_Mon_167 ck hck) hP 3 rfl rfl d_Mon_satisfied_16 ?_
  refine lv_icmp_lt hx hb d_Mon_satisfied_19 (tgt := 26) (by decide) (fun c19 => ?_) (fun h9 => by have h9 : j ≥ y := nb_ltf (by omega) (by omega) h9; exfalso; omega)
  have c19 : j < y := nb_ltt (by omega) (by omega) c19
  refine lv_aload_n hx hb d_Mon_satisfied_26 rfl (lv_at hl 0 rfl) ?_
  refine mm_get (v := .ref sa) hK hx hb hown (lg_Mon_170 ck hck) hP 3 rfl rfl d_Mon_satisfied_27 ?_
  refine lv_iload_n hx hb d_Mon_satisfied_30 rfl (lv_at hl 3 rfl) ?_
  refine mm_lald hK hx hb hP 4 rfl (by decide) (i := j) (by omega) d_Mon_satisfied_31 ?_
  exact mm_lrS hx hb hr hk d_Mon_satisfied_32 rfl
set_option maxHeartbeats 4000000 in
set_option maxRecDepth 100000 in
theorem c_Mon_satisfiedJ (l : Launch) (G : mm_G) (o la ea cap n : Nat) (v1 v3 : Value) (mcn : Int32) (g : Nat → Option Nat) (i qn ck : Nat) (w0 w1 w2 w3 w4 w5 : Value) (y : Nat) (k : Int32) (hkk : fmB k y = false) (hy : y ≤ 24) (ex : List Value) (hck : ck < 8) (hi : i < n) (hn : n ≤ cap) (hcap : cap < 100) (hg : g i = some qn) : Met l y_Mon_satisfied [.code y_Mon_satisfied b_Mon_satisfied 4 (some .long)] { frames := 4, cells := 0, slots := 0, locals := 85 } (mm_Pre G [.ref o, .int (nI i), .int k] (fun H => va_P G.1 cls_all [(o, .inr (10, [.ref la, v1, v3])), (la, .inr (11, [.ref ea, .int (nI n), .int mcn])), (ea, .inl (G.2.1 4, cap, .inr (.inr (.inr (.inr g))))), (qn, .inr (ck, [w0, w1, w2, w3, w4, w5, .int (nI y)] ++ ex))] H)) (vp_Sl (fun r => r = 0)) 0 0 (fun _ => False) := by
  refine mm_of (by decide) (Nat.le_of_ble_eq_true rfl) ?_
  intro p e s m below meth c ls hx hb hr hk hml hown hnm hK hP hl
  have hl : lv_has ls 4 [(0, .ref o), (1, .int (nI i)), (2, .int k)] := hl
  have hkk : ¬ (0 ≤ k.toInt ∧ k.toInt < (y : Int)) := of_decide_eq_false hkk
  refine lv_aload_n hx hb d_Mon_satisfied_0 rfl (lv_at hl 0 rfl) ?_
  refine lv_iload_n hx hb d_Mon_satisfied_1 rfl (lv_at hl 1 rfl) ?_
  refine mm_sq (mm_runV hK ⟨hx, hb, hml, hown⟩ lk_Mon_69 (c_Mon_formulaI l G o la ea cap n v1 v3 mcn g i qn ck (w0) (w1) (w2) (w3) (w4) (w5) (.int (nI y)) ex hck hi hn hcap hg) ⟨rfl, rfl, by decide, by decide⟩ (mm_rc hK hP 0 rfl rfl) (hP.sub (ws' := [(o, .inr (10, [.ref la, v1, v3])), (la, .inr (11, [.ref ea, .int (nI n), .int mcn])), (ea, .inl (G.2.1 4, cap, .inr (.inr (.inr (.inr g))))), (qn, .inr (ck, [w0, w1, w2, w3, w4, w5, .int (nI y)] ++ ex))]) [0, 1, 2, 3] rfl) rfl hl.1 rfl (Nat.le_of_ble_eq_true rfl) ⟨by decide, by decide⟩ d_Mon_satisfied_2) (fun r2 e2 => ?_)
  subst e2
  refine lv_astore_n (lv' := [(3, .ref qn), (0, .ref o), (1, .int (nI i)), (2, .int k)]) hx hb d_Mon_satisfied_5 rfl hl (by decide) rfl (fun ls hl => ?_)
  refine lv_aload_n hx hb d_Mon_satisfied_6 rfl (lv_at hl 0 rfl) ?_
  refine lv_ifnull hx hb d_Mon_satisfied_7 ?_
  refine lv_iload_n hx hb d_Mon_satisfied_10 rfl (lv_at hl 3 rfl) ?_
  refine lv_if_lt hx hb d_Mon_satisfied_11 (tgt := 22) (by decide) (fun c11 => ?_) (fun c11 => ?_)
  · rw [Int32.lt_iff_toInt_lt, Int32.toInt_zero] at c11
    refine lv_lconst (v := 0) hx hb d_Mon_satisfied_22 (by decide) ?_
    refine lv_goto hx hb d_Mon_satisfied_23 (tgt := 32) (by decide) ?_
    exact mm_lrS hx hb hr hk d_Mon_satisfied_32 rfl
  · rw [Int32.lt_iff_toInt_lt, Int32.toInt_zero] at c11
    refine lv_iload_n hx hb d_Mon_satisfied_14 rfl (lv_at hl 3 rfl) ?_
    refine lv_aload_n hx hb d_Mon_satisfied_15 rfl (lv_at hl 0 rfl) ?_
    refine mm_get (v := .int (nI y)) hK hx hb hown (lg_Mon_167 ck hck) hP 3 rfl rfl d_Mon_satisfied_16 ?_
    refine lv_icmp_lt hx hb d_Mon_satisfied_19 (tgt := 26) (by decide) (fun c19 => ?_) (fun c19 => ?_)
    · rw [Int32.lt_iff_toInt_lt, nI_toInt (n := y) (by omega)] at c19
      exfalso; omega
    · rw [Int32.lt_iff_toInt_lt, nI_toInt (n := y) (by omega)] at c19
      refine lv_lconst (v := 0) hx hb d_Mon_satisfied_22 (by decide) ?_
      refine lv_goto hx hb d_Mon_satisfied_23 (tgt := 32) (by decide) ?_
      exact mm_lrS hx hb hr hk d_Mon_satisfied_32 rfl
set_option maxHeartbeats 4000000 in
set_option maxRecDepth 100000 in
theorem c_Mon_satisfiedO (l : Launch) (G : mm_G) (o la n : Nat) (v0 v1 v2 v3 : Value) (f : Int32) (hf : fmB f n = false) (hn : n < 100) (k : Int32) : Met l y_Mon_satisfied [.code y_Mon_satisfied b_Mon_satisfied 4 (some .long)] { frames := 2, cells := 0, slots := 0, locals := 41 } (mm_Pre G [.ref o, .int f, .int k] (fun H => va_P G.1 cls_all [(o, .inr (10, [.ref la, v1, v3])), (la, .inr (11, [v0, .int (nI n), v2]))] H)) (vp_Sl (fun r => r = 0)) 0 0 (fun _ => False) := by
  refine mm_of (by decide) (Nat.le_of_ble_eq_true rfl) ?_
  intro p e s m below meth c ls hx hb hr hk hml hown hnm hK hP hl
  have hl : lv_has ls 4 [(0, .ref o), (1, .int f), (2, .int k)] := hl
  refine lv_aload_n hx hb d_Mon_satisfied_0 rfl (lv_at hl 0 rfl) ?_
  refine lv_iload_n hx hb d_Mon_satisfied_1 rfl (lv_at hl 1 rfl) ?_
  refine mm_sq (mm_runV hK ⟨hx, hb, hml, hown⟩ lk_Mon_69 (c_Mon_formulaO l G o la n v0 v1 v2 v3 f hf hn) ⟨rfl, rfl, by decide, by decide⟩ (mm_rc hK hP 0 rfl rfl) hP rfl hl.1 rfl (Nat.le_of_ble_eq_true rfl) ⟨by decide, by decide⟩ d_Mon_satisfied_2) (fun r2 e2 => ?_)
  subst e2
  refine lv_astore_nN (lv' := [(3, .null), (0, .ref o), (1, .int f), (2, .int k)]) hx hb d_Mon_satisfied_5 rfl hl (by decide) rfl (fun ls hl => ?_)
  refine lv_aload_nN hx hb d_Mon_satisfied_6 rfl (lv_at hl 0 rfl) ?_
  refine lv_ifnullN hx hb d_Mon_satisfied_7 (tgt := 22) (by decide) ?_
  refine lv_lconst (v := 0) hx hb d_Mon_satisfied_22 (by decide) ?_
  refine lv_goto hx hb d_Mon_satisfied_23 (tgt := 32) (by decide) ?_
  exact mm_lrS hx hb hr hk d_Mon_satisfied_32 rfl
set_option maxHeartbeats 4000000 in
set_option maxRecDepth 100000 in
theorem c_Mon_rowsI (l : Launch) (G : mm_G) (o la ea cap n : Nat) (v1 v3 : Value) (mcn : Int32) (g : Nat → Option Nat) (i qn ck : Nat) (w0 w1 w3 w4 : Value) (sa y z : Nat) (S : Nat → Int64) (j : Nat) (hj : j < y) (hy : y ≤ 24) (hz : z < 8) (ex : List Value) (hck : ck < 8) (hi : i < n) (hn : n ≤ cap) (hcap : cap < 100) (hg : g i = some qn) : Met l y_Mon_rows [.code y_Mon_rows b_Mon_rows 5 (some .int)] { frames := 4, cells := 0, slots := 0, locals := 85 } (mm_Pre G [.ref o, .int (nI i), .int (nI j)] (fun H => va_P G.1 cls_all [(o, .inr (10, [.ref la, v1, v3])), (la, .inr (11, [.ref ea, .int (nI n), .int mcn])), (ea, .inl (G.2.1 4, cap, .inr (.inr (.inr (.inr g))))), (qn, .inr (ck, [w0, w1, .int (nI z), w3, w4, .ref sa, .int (nI y)] ++ ex)), (sa, .inl (G.2.1 1, 24, .inr (.inl S)))] H)) (vp_Si (fun r => r = rwC (S j) z)) 0 0 (fun _ => False) := by
  refine mm_of (by decide) (Nat.le_of_ble_eq_true rfl) ?_
  intro p e s m below meth c ls hx hb hr hk hml hown hnm hK hP hl
  have hl : lv_has ls 5 [(0, .ref o), (1, .int (nI i)), (2, .int (nI j))] := hl
  refine lv_aload_n hx hb d_Mon_rows_0 rfl (lv_at hl 0 rfl) ?_
  refine lv_iload_n hx hb d_Mon_rows_1 rfl (lv_at hl 1 rfl) ?_
  refine mm_sq (mm_runV hK ⟨hx, hb, hml, hown⟩ lk_Mon_69 (c_Mon_formulaI l G o la ea cap n v1 v3 mcn g i qn ck (w0) (w1) (.int (nI z)) (w3) (w4) (.ref sa) (.int (nI y)) ex hck hi hn hcap hg) ⟨rfl, rfl, by decide, by decide⟩ (mm_rc hK hP 0 rfl rfl) (hP.sub (ws' := [(o, .inr (10, [.ref la, v1, v3])), (la, .inr (11, [.ref ea, .int (nI n), .int mcn])), (ea, .inl (G.2.1 4, cap, .inr (.inr (.inr (.inr g))))), (qn, .inr (ck, [w0, w1, .int (nI z), w3, w4, .ref sa, .int (nI y)] ++ ex))]) [0, 1, 2, 3] rfl) rfl hl.1 rfl (Nat.le_of_ble_eq_true rfl) ⟨by decide, by decide⟩ d_Mon_rows_2) (fun r2 e2 => ?_)
  subst e2
  refine lv_astore_n (lv' := [(3, .ref qn), (0, .ref o), (1, .int (nI i)), (2, .int (nI j))]) hx hb d_Mon_rows_5 rfl hl (by decide) rfl (fun ls hl => ?_)
  refine lv_aload_n hx hb d_Mon_rows_6 rfl (lv_at hl 0 rfl) ?_
  refine lv_ifnull hx hb d_Mon_rows_7 ?_
  refine lv_iload_n hx hb d_Mon_rows_10 rfl (lv_at hl 3 rfl) ?_
  refine lv_if_lt hx hb d_Mon_rows_11 (tgt := 22) (by decide) (fun h9 => by have h9 : j < 0 := nb_zltt (by omega) h9; exfalso; omega) (fun c11 => ?_)
  have c11 : j ≥ 0 := nb_zltf (by omega) c11
  refine lv_iload_n hx hb d_Mon_rows_14 rfl (lv_at hl 3 rfl) ?_
  refine lv_aload_n hx hb d_Mon_rows_15 rfl (lv_at hl 0 rfl) ?_
  refine mm_get (v := .int (nI y)) hK hx hb hown (lg_Mon_167 ck hck) hP 3 rfl rfl d_Mon_rows_16 ?_
  refine lv_icmp_lt hx hb d_Mon_rows_19 (tgt := 24) (by decide) (fun c19 => ?_) (fun h9 => by have h9 : j ≥ y := nb_ltf (by omega) (by omega) h9; exfalso; omega)
  have c19 : j < y := nb_ltt (by omega) (by omega) c19
  refine lv_aload_n hx hb d_Mon_rows_24 rfl (lv_at hl 0 rfl) ?_
  refine mm_get (v := .ref sa) hK hx hb hown (lg_Mon_170 ck hck) hP 3 rfl rfl d_Mon_rows_25 ?_
  refine lv_iload_n hx hb d_Mon_rows_28 rfl (lv_at hl 3 rfl) ?_
  refine mm_lald hK hx hb hP 4 rfl (by decide) (i := j) (by omega) d_Mon_rows_29 ?_
  refine mm_si (mm_runS hK ⟨hx, hb, hml, hown⟩ lk_Mon_173 (c_Long_bitCount l G (S j)) ⟨rfl, rfl, by decide, by decide⟩ trivial rfl hl.1 rfl (Nat.le_of_ble_eq_true rfl) ⟨by decide, by decide⟩ d_Mon_rows_30) (fun r30 e30 => ?_)
  subst e30
  refine lv_istore (lv' := [(4, .int (bcL (S j))), (3, .ref qn), (0, .ref o), (1, .int (nI i)), (2, .int (nI j))]) hx hb d_Mon_rows_33 hl (by decide) rfl (fun ls hl => ?_)
  refine lv_iload hx hb d_Mon_rows_35 (lv_at hl 0 rfl) ?_
  refine lv_iconst hx hb d_Mon_rows_37 ci_2 ?_
  refine lv_iconst hx hb d_Mon_rows_38 ci_3 ?_
  refine lv_aload_n hx hb d_Mon_rows_39 rfl (lv_at hl 1 rfl) ?_
  refine mm_get (v := .int (nI z)) hK hx hb hown (lg_Mon_110 ck hck) hP 3 rfl rfl d_Mon_rows_40 ?_
  refine mm_si (mm_runS hK ⟨hx, hb, hml, hown⟩ lk_Mon_179 (c_Int_bitCount l G z hz) ⟨rfl, rfl, by decide, by decide⟩ trivial rfl hl.1 rfl (Nat.le_of_ble_eq_true rfl) ⟨by decide, by decide⟩ d_Mon_rows_43) (fun r43 e43 => ?_)
  subst e43
  refine lv_isub hx hb d_Mon_rows_46 ?_
  refine lv_imul hx hb d_Mon_rows_47 ?_
  refine lv_ishr hx hb d_Mon_rows_48 ?_
  exact mm_irS hx hb hr hk d_Mon_rows_49 rfl
set_option maxHeartbeats 4000000 in
set_option maxRecDepth 100000 in
theorem c_Mon_rowsJ (l : Launch) (G : mm_G) (o la ea cap n : Nat) (v1 v3 : Value) (mcn : Int32) (g : Nat → Option Nat) (i qn ck : Nat) (w0 w1 w2 w3 w4 w5 : Value) (y : Nat) (k : Int32) (hkk : fmB k y = false) (hy : y ≤ 24) (ex : List Value) (hck : ck < 8) (hi : i < n) (hn : n ≤ cap) (hcap : cap < 100) (hg : g i = some qn) : Met l y_Mon_rows [.code y_Mon_rows b_Mon_rows 5 (some .int)] { frames := 4, cells := 0, slots := 0, locals := 85 } (mm_Pre G [.ref o, .int (nI i), .int k] (fun H => va_P G.1 cls_all [(o, .inr (10, [.ref la, v1, v3])), (la, .inr (11, [.ref ea, .int (nI n), .int mcn])), (ea, .inl (G.2.1 4, cap, .inr (.inr (.inr (.inr g))))), (qn, .inr (ck, [w0, w1, w2, w3, w4, w5, .int (nI y)] ++ ex))] H)) (vp_Si (fun r => r = (-1))) 0 0 (fun _ => False) := by
  refine mm_of (by decide) (Nat.le_of_ble_eq_true rfl) ?_
  intro p e s m below meth c ls hx hb hr hk hml hown hnm hK hP hl
  have hl : lv_has ls 5 [(0, .ref o), (1, .int (nI i)), (2, .int k)] := hl
  have hkk : ¬ (0 ≤ k.toInt ∧ k.toInt < (y : Int)) := of_decide_eq_false hkk
  refine lv_aload_n hx hb d_Mon_rows_0 rfl (lv_at hl 0 rfl) ?_
  refine lv_iload_n hx hb d_Mon_rows_1 rfl (lv_at hl 1 rfl) ?_
  refine mm_sq (mm_runV hK ⟨hx, hb, hml, hown⟩ lk_Mon_69 (c_Mon_formulaI l G o la ea cap n v1 v3 mcn g i qn ck (w0) (w1) (w2) (w3) (w4) (w5) (.int (nI y)) ex hck hi hn hcap hg) ⟨rfl, rfl, by decide, by decide⟩ (mm_rc hK hP 0 rfl rfl) (hP.sub (ws' := [(o, .inr (10, [.ref la, v1, v3])), (la, .inr (11, [.ref ea, .int (nI n), .int mcn])), (ea, .inl (G.2.1 4, cap, .inr (.inr (.inr (.inr g))))), (qn, .inr (ck, [w0, w1, w2, w3, w4, w5, .int (nI y)] ++ ex))]) [0, 1, 2, 3] rfl) rfl hl.1 rfl (Nat.le_of_ble_eq_true rfl) ⟨by decide, by decide⟩ d_Mon_rows_2) (fun r2 e2 => ?_)
  subst e2
  refine lv_astore_n (lv' := [(3, .ref qn), (0, .ref o), (1, .int (nI i)), (2, .int k)]) hx hb d_Mon_rows_5 rfl hl (by decide) rfl (fun ls hl => ?_)
  refine lv_aload_n hx hb d_Mon_rows_6 rfl (lv_at hl 0 rfl) ?_
  refine lv_ifnull hx hb d_Mon_rows_7 ?_
  refine lv_iload_n hx hb d_Mon_rows_10 rfl (lv_at hl 3 rfl) ?_
  refine lv_if_lt hx hb d_Mon_rows_11 (tgt := 22) (by decide) (fun c11 => ?_) (fun c11 => ?_)
  · rw [Int32.lt_iff_toInt_lt, Int32.toInt_zero] at c11
    refine lv_iconst hx hb d_Mon_rows_22 ci_m1 ?_
    exact mm_irS hx hb hr hk d_Mon_rows_23 rfl
  · rw [Int32.lt_iff_toInt_lt, Int32.toInt_zero] at c11
    refine lv_iload_n hx hb d_Mon_rows_14 rfl (lv_at hl 3 rfl) ?_
    refine lv_aload_n hx hb d_Mon_rows_15 rfl (lv_at hl 0 rfl) ?_
    refine mm_get (v := .int (nI y)) hK hx hb hown (lg_Mon_167 ck hck) hP 3 rfl rfl d_Mon_rows_16 ?_
    refine lv_icmp_lt hx hb d_Mon_rows_19 (tgt := 24) (by decide) (fun c19 => ?_) (fun c19 => ?_)
    · rw [Int32.lt_iff_toInt_lt, nI_toInt (n := y) (by omega)] at c19
      exfalso; omega
    · rw [Int32.lt_iff_toInt_lt, nI_toInt (n := y) (by omega)] at c19
      refine lv_iconst hx hb d_Mon_rows_22 ci_m1 ?_
      exact mm_irS hx hb hr hk d_Mon_rows_23 rfl
set_option maxHeartbeats 4000000 in
set_option maxRecDepth 100000 in
theorem c_Mon_rowsO (l : Launch) (G : mm_G) (o la n : Nat) (v0 v1 v2 v3 : Value) (f : Int32) (hf : fmB f n = false) (hn : n < 100) (k : Int32) : Met l y_Mon_rows [.code y_Mon_rows b_Mon_rows 5 (some .int)] { frames := 2, cells := 0, slots := 0, locals := 41 } (mm_Pre G [.ref o, .int f, .int k] (fun H => va_P G.1 cls_all [(o, .inr (10, [.ref la, v1, v3])), (la, .inr (11, [v0, .int (nI n), v2]))] H)) (vp_Si (fun r => r = (-1))) 0 0 (fun _ => False) := by
  refine mm_of (by decide) (Nat.le_of_ble_eq_true rfl) ?_
  intro p e s m below meth c ls hx hb hr hk hml hown hnm hK hP hl
  have hl : lv_has ls 5 [(0, .ref o), (1, .int f), (2, .int k)] := hl
  refine lv_aload_n hx hb d_Mon_rows_0 rfl (lv_at hl 0 rfl) ?_
  refine lv_iload_n hx hb d_Mon_rows_1 rfl (lv_at hl 1 rfl) ?_
  refine mm_sq (mm_runV hK ⟨hx, hb, hml, hown⟩ lk_Mon_69 (c_Mon_formulaO l G o la n v0 v1 v2 v3 f hf hn) ⟨rfl, rfl, by decide, by decide⟩ (mm_rc hK hP 0 rfl rfl) hP rfl hl.1 rfl (Nat.le_of_ble_eq_true rfl) ⟨by decide, by decide⟩ d_Mon_rows_2) (fun r2 e2 => ?_)
  subst e2
  refine lv_astore_nN (lv' := [(3, .null), (0, .ref o), (1, .int f), (2, .int k)]) hx hb d_Mon_rows_5 rfl hl (by decide) rfl (fun ls hl => ?_)
  refine lv_aload_nN hx hb d_Mon_rows_6 rfl (lv_at hl 0 rfl) ?_
  refine lv_ifnullN hx hb d_Mon_rows_7 (tgt := 22) (by decide) ?_
  refine lv_iconst hx hb d_Mon_rows_22 ci_m1 ?_
  exact mm_irS hx hb hr hk d_Mon_rows_23 rfl
