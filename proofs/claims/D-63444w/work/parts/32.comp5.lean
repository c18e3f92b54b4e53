set_option maxHeartbeats 4000000 in
set_option maxRecDepth 100000 in
theorem c_AbC_init (l : Launch) (G : mm_G) (o : Nat) : Met l y_AbC_init [.code y_AbC_init b_AbC_init 1 none] { frames := 1, cells := 0, slots := 0, locals := 12 } (mm_Pre G [.ref o] (fun H => True)) (va_Sv (fun _ => True)) 0 0 (fun _ => False) := by
  refine mm_of (by decide) (Nat.le_of_ble_eq_true rfl) ?_
  intro p e s m below meth c ls hx hb hr hk hml hown hnm hK _ hl
  have hl : lv_has ls 1 [(0, .ref o)] := hl
  refine lv_aload_n hx hb d_AbC_init_0 rfl (lv_at hl 0 rfl) ?_
  refine W.objInit hx hb hown (hK.w kw_46) (hK.w kw_33) (hK.w kw_34) rfl (by rw [hml]; exact hl.1) rfl d_AbC_init_1 (Nat.le_of_ble_eq_true rfl) (Nat.le_of_ble_eq_true rfl) ?_
  refine W.eq (g2 := F0 m 4 ls []) rfl ?_
  exact mm_vrS hx hb hr hk d_AbC_init_4 trivial
set_option maxHeartbeats 4000000 in
set_option maxRecDepth 100000 in
theorem c_AbL_init (l : Launch) (G : mm_G) {A : Nat → Prop} (o : Nat) (v0 v1 v2 : Value) (hD : va_D A [(o, .inr (11, [v0, v1, v2]))]) : Met l y_AbL_init [.code y_AbL_init b_AbL_init 1 none] { frames := 2, cells := 0, slots := 0, locals := 32 } (mm_Pre G [.ref o] (fun H => va_P G.1 cls_all [(o, .inr (11, [v0, v1, v2]))] H)) (mm_Qv (fun H => va_P G.1 cls_all [(o, .inr (11, [v0, v1, .int (nI 0)]))] H) A) 0 0 A := by
  refine mm_of (by decide) (Nat.le_of_ble_eq_true rfl) ?_
  intro p e s m below meth c ls hx hb hr hk hml hown hnm hK hP hl
  have hl : lv_has ls 1 [(0, .ref o)] := hl
  have hS : va_S A s.heap s.heap [] := va_S.rf
  refine lv_aload_n hx hb d_AbL_init_0 rfl (lv_at hl 0 rfl) ?_
  refine mm_sv (mm_runI hK ⟨hx, hb, hml, hown⟩ lk_AbL_1 (c_AbC_init l G o) ⟨rfl, rfl, by decide, by decide⟩ trivial rfl hl.1 rfl (Nat.le_of_ble_eq_true rfl) ⟨by decide, by decide⟩ d_AbL_init_1) (fun _ => ?_)
  refine lv_aload_n hx hb d_AbL_init_4 rfl (lv_at hl 0 rfl) ?_
  refine lv_iconst hx hb d_AbL_init_5 ci_0 ?_
  refine mm_put (v := .int (nI 0)) hK hx hb hown lp_AbL_7 hP hD hS 0 rfl rfl rfl (Nat.le_of_ble_eq_true rfl) d_AbL_init_6 (fun H locs hP hD hS => ?_)
  have hP : va_P G.1 cls_all [(o, .inr (11, [v0, v1, .int (nI 0)]))] H := hP
  have hD : va_D A [(o, .inr (11, [v0, v1, .int (nI 0)]))] := hD
  exact mm_vrQ hx hb hr hk hS d_AbL_init_9 hP
set_option maxHeartbeats 4000000 in
set_option maxRecDepth 100000 in
theorem c_AL_init (l : Launch) (G : mm_G) {A : Nat → Prop} (Z : Nat × Nat) (o : Nat) (hD : va_D A [(o, .inr (11, [.null, .int 0, .int 0]))]) : Met l y_AL_init [.code y_AL_init b_AL_init 1 none] { frames := 3, cells := 0, slots := 0, locals := 52 } (mn_Pre G A Z [.ref o] (fun H => va_P G.1 cls_all [(o, .inr (11, [.null, .int 0, .int 0]))] H)) (mm_Qv (fun H => va_P G.1 cls_all [(o, .inr (11, [.ref Z.1, .int 0, .int (nI 0)]))] H) A) 0 0 A := by
  refine mn_of (by decide) (Nat.le_of_ble_eq_true rfl) ?_
  intro p e s m below meth c ls hx hb hr hk hml hown hnm hK hT hP hl
  have hl : lv_has ls 1 [(0, .ref o)] := hl
  have hS : va_S A s.heap s.heap [] := va_S.rf
  refine lv_aload_n hx hb d_AL_init_0 rfl (lv_at hl 0 rfl) ?_
  refine mm_qv (mm_runI hK ⟨hx, hb, hml, hown⟩ lk_AL_1 (c_AbL_init l G o .null (.int 0) (.int 0) hD) ⟨rfl, rfl, by decide, by decide⟩ hP rfl hl.1 rfl (Nat.le_of_ble_eq_true rfl) ⟨by decide, by decide⟩ d_AL_init_1) hS (fun q h => h) (fun H locs e1 hz1 hk1 hS => ?_)
  have hP := e1
  have hD : va_D A [(o, .inr (11, [.null, .int 0, .int (nI 0)]))] := mD hD rfl
  refine lv_aload_n hx hb d_AL_init_4 rfl (lv_at hl 0 rfl) ?_
  refine va_gets hx hb hT.1 hS hown (hK.w kw_47) (fun _ h => h) d_AL_init_5 ?_
  refine mm_put (v := .ref Z.1) hK hx hb hown lp_AL_9 hP hD hS 0 rfl rfl rfl (Nat.le_of_ble_eq_true rfl) d_AL_init_8 (fun H locs hP hD hS => ?_)
  have hP : va_P G.1 cls_all [(o, .inr (11, [.ref Z.1, .int 0, .int (nI 0)]))] H := hP
  have hD : va_D A [(o, .inr (11, [.ref Z.1, .int 0, .int (nI 0)]))] := hD
  exact mm_vrQ hx hb hr hk hS d_AL_init_11 hP
set_option maxHeartbeats 4000000 in
set_option maxRecDepth 100000 in
theorem c_AL_size (l : Launch) (G : mm_G) (o : Nat) (v0 v2 : Value) (n : Nat) : Met l y_AL_size [.code y_AL_size b_AL_size 1 (some .int)] { frames := 0, cells := 0, slots := 0, locals := 0 } (mm_Pre G [.ref o] (fun H => va_P G.1 cls_all [(o, .inr (11, [v0, .int (nI n), v2]))] H)) (vp_Si (fun r => r = nI n)) 0 0 (fun _ => False) := by
  refine mm_of (by decide) (Nat.le_of_ble_eq_true rfl) ?_
  intro p e s m below meth c ls hx hb hr hk hml hown hnm hK hP hl
  have hl : lv_has ls 1 [(0, .ref o)] := hl
  refine lv_aload_n hx hb d_AL_size_0 rfl (lv_at hl 0 rfl) ?_
  refine mm_get (v := .int (nI n)) hK hx hb hown lg_AL_48 hP 0 rfl rfl d_AL_size_1 ?_
  exact mm_irS hx hb hr hk d_AL_size_4 rfl
set_option maxHeartbeats 4000000 in
set_option maxRecDepth 100000 in
theorem c_AL_isEmpty (l : Launch) (G : mm_G) (o : Nat) (v0 v2 : Value) (n : Nat) (hn : n < 100) : Met l y_AL_isEmpty [.code y_AL_isEmpty b_AL_isEmpty 1 (some .boolean)] { frames := 0, cells := 0, slots := 0, locals := 0 } (mm_Pre G [.ref o] (fun H => va_P G.1 cls_all [(o, .inr (11, [v0, .int (nI n), v2]))] H)) (vp_Si (fun r => r = bI (decide (n = 0)))) 0 0 (fun _ => False) := by
  refine mm_of (by decide) (Nat.le_of_ble_eq_true rfl) ?_
  intro p e s m below meth c ls hx hb hr hk hml hown hnm hK hP hl
  have hl : lv_has ls 1 [(0, .ref o)] := hl
  refine lv_aload_n hx hb d_AL_isEmpty_0 rfl (lv_at hl 0 rfl) ?_
  refine mm_get (v := .int (nI n)) hK hx hb hown lg_AL_48 hP 0 rfl rfl d_AL_isEmpty_1 ?_
  refine lv_if_ne hx hb d_AL_isEmpty_4 (tgt := 11) (by decide) (fun c4 => ?_) (fun c4 => ?_)
  · have c4 : n ≠ 0 := nb_znet (by omega) c4
    refine lv_iconst hx hb d_AL_isEmpty_11 ci_0 ?_
    exact mm_zrS false (by first | rfl | decide) hx hb hr hk d_AL_isEmpty_12 (bI_f (by omega))
  · have c4 : n = 0 := nb_znef (by omega) c4
    refine lv_iconst hx hb d_AL_isEmpty_7 ci_1 ?_
    refine lv_goto hx hb d_AL_isEmpty_8 (tgt := 12) (by decide) ?_
    exact mm_zrS true (by first | rfl | decide) hx hb hr hk d_AL_isEmpty_12 (bI_t (by omega))
set_option maxHeartbeats 4000000 in
set_option maxRecDepth 100000 in
theorem c_AL_elementData (l : Launch) (G : mm_G) (o ea cap : Nat) (v1 v2 : Value) (g : Nat → Option Nat) (i : Nat) (hi : i < cap) (hcap : cap < 100) : Met l y_AL_elementData [.code y_AL_elementData b_AL_elementData 2 (some (.object "java/lang/Object"))] { frames := 0, cells := 0, slots := 0, locals := 0 } (mm_Pre G [.ref o, .int (nI i)] (fun H => va_P G.1 cls_all [(o, .inr (11, [.ref ea, v1, v2])), (ea, .inl (G.2.1 4, cap, .inr (.inr (.inr (.inr g)))))] H)) (va_Sq (fun r => r = g i)) 0 0 (fun _ => False) := by
  refine mm_of (by decide) (Nat.le_of_ble_eq_true rfl) ?_
  intro p e s m below meth c ls hx hb hr hk hml hown hnm hK hP hl
  have hl : lv_has ls 2 [(0, .ref o), (1, .int (nI i))] := hl
  refine lv_aload_n hx hb d_AL_elementData_0 rfl (lv_at hl 0 rfl) ?_
  refine mm_get (v := .ref ea) hK hx hb hown lg_AL_9 hP 0 rfl rfl d_AL_elementData_1 ?_
  refine lv_iload_n hx hb d_AL_elementData_4 rfl (lv_at hl 1 rfl) ?_
  refine mm_aald hK hx hb hP 1 rfl (by omega) (i := i) (by omega) d_AL_elementData_5 ?_
  exact mm_arS (g i) rfl hx hb hr (Or.inl ⟨_, rfl⟩) hk d_AL_elementData_6 rfl
set_option maxHeartbeats 4000000 in
set_option maxRecDepth 100000 in
theorem c_Pre_checkIndex (l : Launch) (G : mm_G) (i n : Nat) (hi : i < n) (hn : n < 100) : Met l y_Pre_checkIndex [.code y_Pre_checkIndex b_Pre_checkIndex 3 (some .int)] { frames := 0, cells := 0, slots := 0, locals := 0 } (mm_Pre G [.int (nI i), .int (nI n), .null] (fun H => True)) (vp_Si (fun r => r = nI i)) 0 0 (fun _ => False) := by
  refine mm_of (by decide) (Nat.le_of_ble_eq_true rfl) ?_
  intro p e s m below meth c ls hx hb hr hk hml hown hnm hK _ hl
  have hl : lv_has ls 3 [(0, .int (nI i)), (1, .int (nI n)), (2, .null)] := hl
  refine lv_iload_n hx hb d_Pre_checkIndex_0 rfl (lv_at hl 0 rfl) ?_
  refine lv_if_lt hx hb d_Pre_checkIndex_1 (tgt := 9) (by decide) (fun h9 => by have h9 : i < 0 := nb_zltt (by omega) h9; exfalso; omega) (fun c1 => ?_)
  have c1 : i ≥ 0 := nb_zltf (by omega) c1
  refine lv_iload_n hx hb d_Pre_checkIndex_4 rfl (lv_at hl 0 rfl) ?_
  refine lv_iload_n hx hb d_Pre_checkIndex_5 rfl (lv_at hl 1 rfl) ?_
  refine lv_icmp_lt hx hb d_Pre_checkIndex_6 (tgt := 16) (by decide) (fun c6 => ?_) (fun h9 => by have h9 : i ≥ n := nb_ltf (by omega) (by omega) h9; exfalso; omega)
  have c6 : i < n := nb_ltt (by omega) (by omega) c6
  refine lv_iload_n hx hb d_Pre_checkIndex_16 rfl (lv_at hl 0 rfl) ?_
  exact mm_irS hx hb hr hk d_Pre_checkIndex_17 rfl
set_option maxHeartbeats 4000000 in
set_option maxRecDepth 100000 in
theorem c_Objs_checkIndex (l : Launch) (G : mm_G) (i n : Nat) (hi : i < n) (hn : n < 100) : Met l y_Objs_checkIndex [.code y_Objs_checkIndex b_Objs_checkIndex 2 (some .int)] { frames := 1, cells := 0, slots := 0, locals := 22 } (mm_Pre G [.int (nI i), .int (nI n)] (fun H => True)) (vp_Si (fun r => r = nI i)) 0 0 (fun _ => False) := by
  refine mm_of (by decide) (Nat.le_of_ble_eq_true rfl) ?_
  intro p e s m below meth c ls hx hb hr hk hml hown hnm hK _ hl
  have hl : lv_has ls 2 [(0, .int (nI i)), (1, .int (nI n))] := hl
  refine lv_iload_n hx hb d_Objs_checkIndex_0 rfl (lv_at hl 0 rfl) ?_
  refine lv_iload_n hx hb d_Objs_checkIndex_1 rfl (lv_at hl 1 rfl) ?_
  refine lv_null hx hb d_Objs_checkIndex_2 ?_
  refine mm_si (mm_runS hK ⟨hx, hb, hml, hown⟩ lk_Objs_105 (c_Pre_checkIndex l G i n hi hn) ⟨rfl, rfl, by decide, by decide⟩ trivial rfl hl.1 rfl (Nat.le_of_ble_eq_true rfl) ⟨by decide, by decide⟩ d_Objs_checkIndex_3) (fun r3 e3 => ?_)
  subst e3
  exact mm_irS hx hb hr hk d_Objs_checkIndex_6 rfl
set_option maxHeartbeats 4000000 in
set_option maxRecDepth 100000 in
theorem c_AL_get (l : Launch) (G : mm_G) (o ea cap n : Nat) (mcn : Int32) (g : Nat → Option Nat) (i : Nat) (hi : i < n) (hn : n ≤ cap) (hcap : cap < 100) : Met l y_AL_get [.code y_AL_get b_AL_get 2 (some (.object "java/lang/Object"))] { frames := 2, cells := 0, slots := 0, locals := 43 } (mm_Pre G [.ref o, .int (nI i)] (fun H => va_P G.1 cls_all [(o, .inr (11, [.ref ea, .int (nI n), .int mcn])), (ea, .inl (G.2.1 4, cap, .inr (.inr (.inr (.inr g)))))] H)) (va_Sq (fun r => r = g i)) 0 0 (fun _ => False) := by
  refine mm_of (by decide) (Nat.le_of_ble_eq_true rfl) ?_
  intro p e s m below meth c ls hx hb hr hk hml hown hnm hK hP hl
  have hl : lv_has ls 2 [(0, .ref o), (1, .int (nI i))] := hl
  refine lv_iload_n hx hb d_AL_get_0 rfl (lv_at hl 1 rfl) ?_
  refine lv_aload_n hx hb d_AL_get_1 rfl (lv_at hl 0 rfl) ?_
  refine mm_get (v := .int (nI n)) hK hx hb hown lg_AL_48 hP 0 rfl rfl d_AL_get_2 ?_
  refine mm_si (mm_runS hK ⟨hx, hb, hml, hown⟩ lk_AL_118 (c_Objs_checkIndex l G i n hi (by omega)) ⟨rfl, rfl, by decide, by decide⟩ trivial rfl hl.1 rfl (Nat.le_of_ble_eq_true rfl) ⟨by decide, by decide⟩ d_AL_get_5) (fun r5 e5 => ?_)
  subst e5
  refine lv_pop hx hb d_AL_get_8 rfl ?_
  refine lv_aload_n hx hb d_AL_get_9 rfl (lv_at hl 0 rfl) ?_
  refine lv_iload_n hx hb d_AL_get_10 rfl (lv_at hl 1 rfl) ?_
  refine mm_sq (mm_runV hK ⟨hx, hb, hml, hown⟩ lk_AL_123 (c_AL_elementData l G o ea cap (.int (nI n)) (.int mcn) g i (by omega) hcap) ⟨rfl, rfl, by decide, by decide⟩ (mm_rc hK hP 0 rfl rfl) hP rfl hl.1 rfl (Nat.le_of_ble_eq_true rfl) ⟨by decide, by decide⟩ d_AL_get_11) (fun r11 e11 => ?_)
  subst e11
  exact mm_arS (g i) rfl hx hb hr (Or.inl ⟨_, rfl⟩) hk d_AL_get_14 rfl
set_option maxHeartbeats 4000000 in
set_option maxRecDepth 100000 in
theorem c_ASup_newLength (l : Launch) (G : mm_G) (a b d : Nat) (h1 : 0 < a) (h2 : a < 100) (h3 : b < 100) (h4 : d < 100) : Met l y_ASup_newLength [.code y_ASup_newLength b_ASup_newLength 4 (some .int)] { frames := 1, cells := 0, slots := 0, locals := 14 } (mm_Pre G [.int (nI a), .int (nI b), .int (nI d)] (fun H => True)) (vp_Si (fun r => r = nI (a + max b d))) 0 0 (fun _ => False) := by
  refine mm_of (by decide) (Nat.le_of_ble_eq_true rfl) ?_
  intro p e s m below meth c ls hx hb hr hk hml hown hnm hK _ hl
  have hl : lv_has ls 4 [(0, .int (nI a)), (1, .int (nI b)), (2, .int (nI d))] := hl
  refine lv_iload_n hx hb d_ASup_newLength_0 rfl (lv_at hl 0 rfl) ?_
  refine lv_iload_n hx hb d_ASup_newLength_1 rfl (lv_at hl 1 rfl) ?_
  refine lv_iload_n hx hb d_ASup_newLength_2 rfl (lv_at hl 2 rfl) ?_
  refine va_mmax hx hb (hml.trans hl.1.symm) hown (hK.w kw_274) (hK.w kw_275) (hK.w kw_10) (hK.w kw_276) (by decide) (Nat.le_of_ble_eq_true rfl) (by decide) (by decide) d_ASup_newLength_3 ?_
  refine mm_ti (y := nI (max b d)) (mx_lem (by omega) (by omega)) ?_
  refine lv_iadd hx hb d_ASup_newLength_6 ?_
  refine mm_ti (nI_add _ _) ?_
  refine lv_istore_n (lv' := [(3, .int (nI (a + (max b d)))), (0, .int (nI a)), (1, .int (nI b)), (2, .int (nI d))]) hx hb d_ASup_newLength_7 rfl hl (by decide) rfl (fun ls hl => ?_)
  refine lv_iconst hx hb d_ASup_newLength_8 ci_0 ?_
  refine lv_iload_n hx hb d_ASup_newLength_9 rfl (lv_at hl 0 rfl) ?_
  refine lv_icmp_ge hx hb d_ASup_newLength_10 (tgt := 21) (by decide) (fun h9 => by have h9 : 0 ≥ a + (max b d) := nb_get (by omega) (by omega) h9; exfalso; omega) (fun c10 => ?_)
  have c10 : 0 < a + (max b d) := nb_gef (by omega) (by omega) c10
  refine lv_iload_n hx hb d_ASup_newLength_13 rfl (lv_at hl 0 rfl) ?_
  refine lv_ldc (v := 2147483639) hx hb hown (hK.w kw_277) d_ASup_newLength_14 ?_
  refine mm_ti (y := nI 2147483639) (by decide) ?_
  refine lv_icmp_gt hx hb d_ASup_newLength_16 (tgt := 21) (by decide) (fun h9 => by have h9 : a + (max b d) > 2147483639 := nb_gtt (by omega) (by omega) h9; exfalso; omega) (fun c16 => ?_)
  have c16 : a + (max b d) ≤ 2147483639 := nb_gtf (by omega) (by omega) c16
  refine lv_iload_n hx hb d_ASup_newLength_19 rfl (lv_at hl 0 rfl) ?_
  exact mm_irS hx hb hr hk d_ASup_newLength_20 rfl
set_option maxHeartbeats 4000000 in
set_option maxRecDepth 100000 in
theorem c_Arr_copyOf2 (l : Launch) (G : mm_G) {A : Nat → Prop} (ea : Nat) (g : Nat → Option Nat) (hD : va_D A [(ea, .inl (G.2.1 4, 10, .inr (.inr (.inr (.inr g)))))]) : Met l y_Arr_copyOf2 [.code y_Arr_copyOf2 b_Arr_copyOf2 4 (some (.array (.object "java/lang/Object")))] { frames := 1, cells := 1, slots := 15, locals := 60 } (mm_Pre G [.ref ea, .int (nI 15), .ref G.2.2] (fun H => va_P G.1 cls_all [(ea, .inl (G.2.1 4, 10, .inr (.inr (.inr (.inr g)))))] H ∧ (∀ q, H.size ≤ q → A q) ∧ EL G A 10 g H)) (mm_Qq (fun r H => ∃ q, r = some q ∧ va_P G.1 cls_all [(ea, .inl (G.2.1 4, 10, .inr (.inr (.inr (.inr g))))), (q, .inl (G.2.1 4, 15, .inr (.inr (.inr (.inr (va_cpy g (fun _ => none) 0 0 10))))))] H ∧ va_D A [(ea, .inl (G.2.1 4, 10, .inr (.inr (.inr (.inr g))))), (q, .inl (G.2.1 4, 15, .inr (.inr (.inr (.inr (va_cpy g (fun _ => none) 0 0 10))))))]) A) 1 15 A := by
  refine mm_of (by decide) (Nat.le_of_ble_eq_true rfl) ?_
  intro p e s m below meth c ls hx hb hr hk hml hown hnm hK h0 hl
  have hl : lv_has ls 4 [(0, .ref ea), (1, .int (nI 15)), (2, .ref G.2.2)] := hl
  obtain ⟨hP, hA, hE⟩ := h0
  have hS : va_S A s.heap s.heap [] := va_S.rf
  refine lv_aload_n hx hb d_Arr_copyOf2_0 rfl (lv_at hl 2 rfl) ?_
  refine va_ldcM hx hb hown (hK.w kw_305) hK.2.2.1 d_Arr_copyOf2_1 ?_
  refine lv_acmp_ne (rx := (some G.2.2)) (ry := (some G.2.2)) hx hb d_Arr_copyOf2_3 (tgt := 13) (by decide) (fun h9 => absurd rfl h9) (fun c3 => ?_)
  refine lv_iload_n hx hb d_Arr_copyOf2_6 rfl (lv_at hl 1 rfl) ?_
  refine mm_newq hK hx hb hown kw_307 hP hD hS hA (N := 15) (by decide) (by decide) (by decide) d_Arr_copyOf2_7 (fun q7 H hP hD hS => ?_)
  have hP : va_P G.1 cls_all [(ea, .inl (G.2.1 4, 10, .inr (.inr (.inr (.inr g))))), (q7, .inl (G.2.1 4, 15, .inr (.inr (.inr (.inr (fun _ => none))))))] H := hP
  have hD : va_D A [(ea, .inl (G.2.1 4, 10, .inr (.inr (.inr (.inr g))))), (q7, .inl (G.2.1 4, 15, .inr (.inr (.inr (.inr (fun _ => none))))))] := hD
  refine W.widen (k := 1) (n := 15) (by decide) (by decide) ?_
  refine lv_goto hx hb d_Arr_copyOf2_10 (tgt := 24) (by decide) ?_
  refine lv_astore_n (lv' := [(3, .ref q7), (0, .ref ea), (1, .int (nI 15)), (2, .ref G.2.2)]) hx hb d_Arr_copyOf2_24 rfl hl (by decide) rfl (fun ls hl => ?_)
  refine lv_aload_n hx hb d_Arr_copyOf2_25 rfl (lv_at hl 1 rfl) ?_
  refine lv_iconst hx hb d_Arr_copyOf2_26 ci_0 ?_
  refine lv_aload_n hx hb d_Arr_copyOf2_27 rfl (lv_at hl 0 rfl) ?_
  refine lv_iconst hx hb d_Arr_copyOf2_28 ci_0 ?_
  refine lv_aload_n hx hb d_Arr_copyOf2_29 rfl (lv_at hl 1 rfl) ?_
  refine va_alen (v := nI 10) hx hb hK.2.1 hP 0 4 rfl rfl rfl d_Arr_copyOf2_30 ?_
  refine lv_iload_n hx hb d_Arr_copyOf2_31 rfl (lv_at hl 2 rfl) ?_
  refine va_mmin hx hb (hml.trans hl.1.symm) hown (hK.w kw_308) (hK.w kw_309) (hK.w kw_10) (hK.w kw_310) (by decide) (Nat.le_of_ble_eq_true rfl) (by decide) (by decide) d_Arr_copyOf2_32 ?_
  refine mm_ti (y := nI (min 10 15)) (mn_lem (by omega) (by omega)) ?_
  refine mm_ti (y := nI 10) (by decide) ?_
  refine mm_copy hK hx hb (hml.trans hl.1.symm) hown hP hD hS 0 1 rfl rfl (by decide) (by decide) (by decide) (fun i y hi hy => hE.any hK hS hi hy) (by decide) (Nat.le_of_ble_eq_true rfl) d_Arr_copyOf2_35 (fun H locs hP hD hS => ?_)
  have hP : va_P G.1 cls_all [(ea, .inl (G.2.1 4, 10, .inr (.inr (.inr (.inr g))))), (q7, .inl (G.2.1 4, 15, .inr (.inr (.inr (.inr (va_cpy g (fun _ => none) 0 0 10))))))] H := hP
  have hD : va_D A [(ea, .inl (G.2.1 4, 10, .inr (.inr (.inr (.inr g))))), (q7, .inl (G.2.1 4, 15, .inr (.inr (.inr (.inr (va_cpy g (fun _ => none) 0 0 10))))))] := hD
  refine lv_aload_n hx hb d_Arr_copyOf2_38 rfl (lv_at hl 0 rfl) ?_
  exact mm_arQ (some q7) rfl hx hb hr (Or.inr ⟨_, rfl⟩) hk hS d_Arr_copyOf2_39 ⟨_, rfl, hP, hD⟩
set_option maxHeartbeats 4000000 in
set_option maxRecDepth 100000 in
theorem c_Arr_copyOf1 (l : Launch) (G : mm_G) {A : Nat → Prop} (ea : Nat) (g : Nat → Option Nat) (hD : va_D A [(ea, .inl (G.2.1 4, 10, .inr (.inr (.inr (.inr g)))))]) : Met l y_Arr_copyOf1 [.code y_Arr_copyOf1 b_Arr_copyOf1 2 (some (.array (.object "java/lang/Object")))] { frames := 2, cells := 1, slots := 15, locals := 83 } (mm_Pre G [.ref ea, .int (nI 15)] (fun H => va_P G.1 cls_all [(ea, .inl (G.2.1 4, 10, .inr (.inr (.inr (.inr g)))))] H ∧ (∀ q, H.size ≤ q → A q) ∧ EL G A 10 g H)) (mm_Qq (fun r H => ∃ q, r = some q ∧ va_P G.1 cls_all [(ea, .inl (G.2.1 4, 10, .inr (.inr (.inr (.inr g))))), (q, .inl (G.2.1 4, 15, .inr (.inr (.inr (.inr (va_cpy g (fun _ => none) 0 0 10))))))] H ∧ va_D A [(ea, .inl (G.2.1 4, 10, .inr (.inr (.inr (.inr g))))), (q, .inl (G.2.1 4, 15, .inr (.inr (.inr (.inr (va_cpy g (fun _ => none) 0 0 10))))))]) A) 1 15 A := by
  refine mm_of (by decide) (Nat.le_of_ble_eq_true rfl) ?_
  intro p e s m below meth c ls hx hb hr hk hml hown hnm hK h0 hl
  have hl : lv_has ls 2 [(0, .ref ea), (1, .int (nI 15))] := hl
  obtain ⟨hP, hA, hE⟩ := h0
  have hS : va_S A s.heap s.heap [] := va_S.rf
  refine lv_aload_n hx hb d_Arr_copyOf1_0 rfl (lv_at hl 0 rfl) ?_
  refine lv_iload_n hx hb d_Arr_copyOf1_1 rfl (lv_at hl 1 rfl) ?_
  refine lv_aload_n hx hb d_Arr_copyOf1_2 rfl (lv_at hl 0 rfl) ?_
  refine mm_getC hK hx hb (hml.trans hl.1.symm) hown hP 0 rfl (by decide) (Nat.le_of_ble_eq_true rfl) d_Arr_copyOf1_3 ?_
  refine mm_qq (mm_runS hK ⟨hx, hb, hml, hown⟩ lk_Arr_300 (c_Arr_copyOf2 l G ea g hD) ⟨rfl, rfl, by decide, by decide⟩ ⟨hP, (fun q h => hA q (Nat.le_trans hS.1 h)), hE.at hS⟩ rfl hl.1 rfl (Nat.le_of_ble_eq_true rfl) ⟨by decide, by decide⟩ d_Arr_copyOf1_6) hS (fun q h => h) (fun r6 H locs e6 hz1 hk1 hS => ?_)
  obtain ⟨q6, rfl, hP, hD⟩ := e6
  refine W.widen (k := 1) (n := 15) (by decide) (by decide) ?_
  exact mm_arQ (some q6) rfl hx hb hr (Or.inr ⟨_, rfl⟩) hk hS d_Arr_copyOf1_9 ⟨_, rfl, hP, hD⟩
