set_option maxHeartbeats 4000000 in
set_option maxRecDepth 100000 in
theorem c_AL_grow2V (l : Launch) (G : mm_G) {A : Nat → Prop} (Z : Nat × Nat) (o : Nat) (mcn : Int32) (hD : va_D A [(o, .inr (11, [.ref Z.1, .int (nI 0), .int mcn]))]) : Met l y_AL_grow2 [.code y_AL_grow2 b_AL_grow2 4 (some (.array (.object "java/lang/Object")))] { frames := 1, cells := 1, slots := 10, locals := 14 } (mn_Pre G A Z [.ref o, .int (nI 1)] (fun H => va_P G.1 cls_all [(o, .inr (11, [.ref Z.1, .int (nI 0), .int mcn]))] H ∧ (∀ q, H.size ≤ q → A q))) (mm_Qq (fun r H => ∃ q, r = some q ∧ va_P G.1 cls_all [(o, .inr (11, [.ref q, .int (nI 0), .int mcn])), (q, .inl (G.2.1 4, 10, .inr (.inr (.inr (.inr (fun _ => none))))))] H ∧ va_D A [(o, .inr (11, [.ref q, .int (nI 0), .int mcn])), (q, .inl (G.2.1 4, 10, .inr (.inr (.inr (.inr (fun _ => none))))))]) A) 1 10 A := by
  refine mn_of (by decide) (Nat.le_of_ble_eq_true rfl) ?_
  intro p e s m below meth c ls hx hb hr hk hml hown hnm hK hT h0 hl
  have hl : lv_has ls 4 [(0, .ref o), (1, .int (nI 1))] := hl
  obtain ⟨hP, hA⟩ := h0
  have hS : va_S A s.heap s.heap [] := va_S.rf
  refine lv_aload_n hx hb d_AL_grow2_0 rfl (lv_at hl 0 rfl) ?_
  refine mm_get (v := .ref Z.1) hK hx hb hown lg_AL_9 hP 0 rfl rfl d_AL_grow2_1 ?_
  refine va_tlen (v := nI 0) hx hb hT.2.1 hS rfl d_AL_grow2_4 ?_
  refine lv_istore_n (lv' := [(2, .int (nI 0)), (0, .ref o), (1, .int (nI 1))]) hx hb d_AL_grow2_5 rfl hl (by decide) rfl (fun ls hl => ?_)
  refine lv_iload_n hx hb d_AL_grow2_6 rfl (lv_at hl 0 rfl) ?_
  refine lv_if_gt hx hb d_AL_grow2_7 (tgt := 20) (by decide) (fun h9 => absurd h9 (by decide)) (fun c7 => ?_)
  have c7 : 0 ≤ 0 := nb_zgtf (by omega) c7
  refine lv_aload_n hx hb d_AL_grow2_10 rfl (lv_at hl 1 rfl) ?_
  refine mm_get (v := .ref Z.1) hK hx hb hown lg_AL_9 hP 0 rfl rfl d_AL_grow2_11 ?_
  refine va_gets hx hb hT.1 hS hown (hK.w kw_47) (fun _ h => h) d_AL_grow2_14 ?_
  refine lv_acmp_eq (rx := (some Z.1)) (ry := (some Z.1)) hx hb d_AL_grow2_17 (tgt := 45) (by decide) (fun c17 => ?_) (fun h9 => absurd rfl h9)
  refine lv_aload_n hx hb d_AL_grow2_45 rfl (lv_at hl 1 rfl) ?_
  refine lv_bipush (v := nI 10) hx hb d_AL_grow2_46 (by decide) ?_
  refine lv_iload_n hx hb d_AL_grow2_48 rfl (lv_at hl 2 rfl) ?_
  refine va_mmax hx hb (hml.trans hl.1.symm) hown (hK.w kw_314) (hK.w kw_275) (hK.w kw_10) (hK.w kw_276) (by decide) (Nat.le_of_ble_eq_true rfl) (by decide) (by decide) d_AL_grow2_49 ?_
  refine mm_ti (y := nI (max 10 1)) (mx_lem (by omega) (by omega)) ?_
  refine mm_ti (y := nI 10) (by decide) ?_
  refine mm_newq hK hx hb hown kw_315 hP hD hS hA (N := 10) (by decide) (by decide) (by decide) d_AL_grow2_52 (fun q52 H hP hD hS => ?_)
  have hP : va_P G.1 cls_all [(o, .inr (11, [.ref Z.1, .int (nI 0), .int mcn])), (q52, .inl (G.2.1 4, 10, .inr (.inr (.inr (.inr (fun _ => none))))))] H := hP
  have hD : va_D A [(o, .inr (11, [.ref Z.1, .int (nI 0), .int mcn])), (q52, .inl (G.2.1 4, 10, .inr (.inr (.inr (.inr (fun _ => none))))))] := hD
  refine W.widen (k := 1) (n := 10) (by decide) (by decide) ?_
  refine lv_dup_x1 hx hb d_AL_grow2_55 rfl rfl ?_
  refine mm_put (v := .ref q52) hK hx hb hown lp_AL_9 hP hD hS 0 rfl rfl rfl (Nat.le_of_ble_eq_true rfl) d_AL_grow2_56 (fun H locs hP hD hS => ?_)
  have hP : va_P G.1 cls_all [(o, .inr (11, [.ref q52, .int (nI 0), .int mcn])), (q52, .inl (G.2.1 4, 10, .inr (.inr (.inr (.inr (fun _ => none))))))] H := hP
  have hD : va_D A [(o, .inr (11, [.ref q52, .int (nI 0), .int mcn])), (q52, .inl (G.2.1 4, 10, .inr (.inr (.inr (.inr (fun _ => none))))))] := hD
  exact mm_arQ (some q52) rfl hx hb hr (Or.inr ⟨_, rfl⟩) hk hS d_AL_grow2_59 ⟨_, rfl, hP, hD⟩
set_option maxHeartbeats 4000000 in
set_option maxRecDepth 100000 in
theorem c_AL_grow1V (l : Launch) (G : mm_G) {A : Nat → Prop} (Z : Nat × Nat) (o : Nat) (mcn : Int32) (hD : va_D A [(o, .inr (11, [.ref Z.1, .int (nI 0), .int mcn]))]) : Met l y_AL_grow1 [.code y_AL_grow1 b_AL_grow1 1 (some (.array (.object "java/lang/Object")))] { frames := 2, cells := 1, slots := 10, locals := 37 } (mn_Pre G A Z [.ref o] (fun H => va_P G.1 cls_all [(o, .inr (11, [.ref Z.1, .int (nI 0), .int mcn]))] H ∧ (∀ q, H.size ≤ q → A q))) (mm_Qq (fun r H => ∃ q, r = some q ∧ va_P G.1 cls_all [(o, .inr (11, [.ref q, .int (nI 0), .int mcn])), (q, .inl (G.2.1 4, 10, .inr (.inr (.inr (.inr (fun _ => none))))))] H ∧ va_D A [(o, .inr (11, [.ref q, .int (nI 0), .int mcn])), (q, .inl (G.2.1 4, 10, .inr (.inr (.inr (.inr (fun _ => none))))))]) A) 1 10 A := by
  refine mn_of (by decide) (Nat.le_of_ble_eq_true rfl) ?_
  intro p e s m below meth c ls hx hb hr hk hml hown hnm hK hT h0 hl
  have hl : lv_has ls 1 [(0, .ref o)] := hl
  obtain ⟨hP, hA⟩ := h0
  have hS : va_S A s.heap s.heap [] := va_S.rf
  refine lv_aload_n hx hb d_AL_grow1_0 rfl (lv_at hl 0 rfl) ?_
  refine lv_aload_n hx hb d_AL_grow1_1 rfl (lv_at hl 0 rfl) ?_
  refine mm_get (v := .int (nI 0)) hK hx hb hown lg_AL_48 hP 0 rfl rfl d_AL_grow1_2 ?_
  refine lv_iconst hx hb d_AL_grow1_5 ci_1 ?_
  refine lv_iadd hx hb d_AL_grow1_6 ?_
  refine mm_ti (y := nI 1) (by decide) ?_
  refine mm_qq (mn_runV hK hT hS (fun q h => h) ⟨hx, hb, hml, hown⟩ lk_AL_69 (c_AL_grow2V l G Z o mcn hD) ⟨rfl, rfl, by decide, by decide⟩ (mm_rc hK hP 0 rfl rfl) ⟨hP, (fun q h => hA q (Nat.le_trans hS.1 h))⟩ rfl hl.1 rfl (Nat.le_of_ble_eq_true rfl) ⟨by decide, by decide⟩ d_AL_grow1_7) hS (fun q h => h) (fun r7 H locs e7 hz1 hk1 hS => ?_)
  obtain ⟨q7, rfl, hP, hD⟩ := e7
  refine W.widen (k := 1) (n := 10) (by decide) (by decide) ?_
  exact mm_arQ (some q7) rfl hx hb hr (Or.inr ⟨_, rfl⟩) hk hS d_AL_grow1_10 ⟨_, rfl, hP, hD⟩
set_option maxHeartbeats 4000000 in
set_option maxRecDepth 100000 in
theorem c_AL_grow2G (l : Launch) (G : mm_G) {A : Nat → Prop} (o ea : Nat) (mcn : Int32) (g : Nat → Option Nat) (hD : va_D A [(o, .inr (11, [.ref ea, .int (nI 10), .int mcn])), (ea, .inl (G.2.1 4, 10, .inr (.inr (.inr (.inr g)))))]) : Met l y_AL_grow2 [.code y_AL_grow2 b_AL_grow2 4 (some (.array (.object "java/lang/Object")))] { frames := 3, cells := 1, slots := 15, locals := 104 } (mm_Pre G [.ref o, .int (nI 11)] (fun H => va_P G.1 cls_all [(o, .inr (11, [.ref ea, .int (nI 10), .int mcn])), (ea, .inl (G.2.1 4, 10, .inr (.inr (.inr (.inr g)))))] H ∧ (∀ q, H.size ≤ q → A q) ∧ EL G A 10 g H)) (mm_Qq (fun r H => ∃ q, r = some q ∧ va_P G.1 cls_all [(o, .inr (11, [.ref q, .int (nI 10), .int mcn])), (ea, .inl (G.2.1 4, 10, .inr (.inr (.inr (.inr g))))), (q, .inl (G.2.1 4, 15, .inr (.inr (.inr (.inr (va_cpy g (fun _ => none) 0 0 10))))))] H ∧ va_D A [(o, .inr (11, [.ref q, .int (nI 10), .int mcn])), (ea, .inl (G.2.1 4, 10, .inr (.inr (.inr (.inr g))))), (q, .inl (G.2.1 4, 15, .inr (.inr (.inr (.inr (va_cpy g (fun _ => none) 0 0 10))))))]) A) 1 15 A := by
  refine mm_of (by decide) (Nat.le_of_ble_eq_true rfl) ?_
  intro p e s m below meth c ls hx hb hr hk hml hown hnm hK h0 hl
  have hl : lv_has ls 4 [(0, .ref o), (1, .int (nI 11))] := hl
  obtain ⟨hP, hA, hE⟩ := h0
  have hS : va_S A s.heap s.heap [] := va_S.rf
  refine lv_aload_n hx hb d_AL_grow2_0 rfl (lv_at hl 0 rfl) ?_
  refine mm_get (v := .ref ea) hK hx hb hown lg_AL_9 hP 0 rfl rfl d_AL_grow2_1 ?_
  refine va_alen (v := nI 10) hx hb hK.2.1 hP 1 4 rfl rfl rfl d_AL_grow2_4 ?_
  refine lv_istore_n (lv' := [(2, .int (nI 10)), (0, .ref o), (1, .int (nI 11))]) hx hb d_AL_grow2_5 rfl hl (by decide) rfl (fun ls hl => ?_)
  refine lv_iload_n hx hb d_AL_grow2_6 rfl (lv_at hl 0 rfl) ?_
  refine lv_if_gt hx hb d_AL_grow2_7 (tgt := 20) (by decide) (fun c7 => ?_) (fun h9 => absurd h9 (by decide))
  have c7 : 10 > 0 := nb_zgtt (by omega) c7
  refine lv_iload_n hx hb d_AL_grow2_20 rfl (lv_at hl 0 rfl) ?_
  refine lv_iload_n hx hb d_AL_grow2_21 rfl (lv_at hl 2 rfl) ?_
  refine lv_iload_n hx hb d_AL_grow2_22 rfl (lv_at hl 0 rfl) ?_
  refine lv_isub hx hb d_AL_grow2_23 ?_
  refine mm_ti (y := nI 1) (by decide) ?_
  refine lv_iload_n hx hb d_AL_grow2_24 rfl (lv_at hl 0 rfl) ?_
  refine lv_iconst hx hb d_AL_grow2_25 ci_1 ?_
  refine lv_ishr hx hb d_AL_grow2_26 ?_
  refine mm_ti (y := nI 5) (by decide) ?_
  refine mm_si (mm_runS hK ⟨hx, hb, hml, hown⟩ lk_AL_73 (c_ASup_newLength l G 10 1 5 (by decide) (by decide) (by decide) (by decide)) ⟨rfl, rfl, by decide, by decide⟩ trivial rfl hl.1 rfl (Nat.le_of_ble_eq_true rfl) ⟨by decide, by decide⟩ d_AL_grow2_27) (fun r27 e27 => ?_)
  subst e27
  refine mm_ti (y := nI 15) (by decide) ?_
  refine lv_istore_n (lv' := [(3, .int (nI 15)), (2, .int (nI 10)), (0, .ref o), (1, .int (nI 11))]) hx hb d_AL_grow2_30 rfl hl (by decide) rfl (fun ls hl => ?_)
  refine lv_aload_n hx hb d_AL_grow2_31 rfl (lv_at hl 2 rfl) ?_
  refine lv_aload_n hx hb d_AL_grow2_32 rfl (lv_at hl 2 rfl) ?_
  refine mm_get (v := .ref ea) hK hx hb hown lg_AL_9 hP 0 rfl rfl d_AL_grow2_33 ?_
  refine lv_iload_n hx hb d_AL_grow2_36 rfl (lv_at hl 0 rfl) ?_
  have hPc := hP.sub (ws' := [(ea, .inl (G.2.1 4, 10, .inr (.inr (.inr (.inr g)))))]) [1] rfl
  have hDc := (hD.sub (ws' := [(ea, .inl (G.2.1 4, 10, .inr (.inr (.inr (.inr g)))))]) [1] (by decide) rfl).self (sz := s.heap.size)
  have hFc := va_free (wc := [(ea, .inl (G.2.1 4, 10, .inr (.inr (.inr (.inr g)))))]) hD hS hA [1] rfl
  refine mm_qq (mm_runS hK ⟨hx, hb, hml, hown⟩ lk_AL_66 (c_Arr_copyOf1 l G ea g hDc) ⟨rfl, rfl, by decide, by decide⟩ ⟨hPc, fun q h => Or.inr h, (hE.at hS).narrow hFc⟩ rfl hl.1 rfl (Nat.le_of_ble_eq_true rfl) ⟨by decide, by decide⟩ d_AL_grow2_37) hS hFc (fun r37 H1 locs e37 hz1 hk1 hS => ?_)
  obtain ⟨q37, rfl, hP1, hD1⟩ := e37
  obtain ⟨hP, hD⟩ := va_join (wr := [(o, .inr (11, [.ref ea, .int (nI 10), .int mcn]))]) (w1 := [(ea, .inl (G.2.1 4, 10, .inr (.inr (.inr (.inr g))))), (q37, .inl (G.2.1 4, 15, .inr (.inr (.inr (.inr (va_cpy g (fun _ => none) 0 0 10))))))]) hP hD [1] [0] rfl rfl (by decide) (by decide) hk1 hFc hP1 hD1
  obtain ⟨H, rfl⟩ : ∃ H9, H9 = H1 := ⟨_, rfl⟩
  have hP : va_P G.1 cls_all [(o, .inr (11, [.ref ea, .int (nI 10), .int mcn])), (ea, .inl (G.2.1 4, 10, .inr (.inr (.inr (.inr g))))), (q37, .inl (G.2.1 4, 15, .inr (.inr (.inr (.inr (va_cpy g (fun _ => none) 0 0 10))))))] H := hP
  have hD : va_D A [(o, .inr (11, [.ref ea, .int (nI 10), .int mcn])), (ea, .inl (G.2.1 4, 10, .inr (.inr (.inr (.inr g))))), (q37, .inl (G.2.1 4, 15, .inr (.inr (.inr (.inr (va_cpy g (fun _ => none) 0 0 10))))))] := hD
  refine W.widen (k := 1) (n := 15) (by decide) (by decide) ?_
  refine lv_dup_x1 hx hb d_AL_grow2_40 rfl rfl ?_
  refine mm_put (v := .ref q37) hK hx hb hown lp_AL_9 hP hD hS 0 rfl rfl rfl (Nat.le_of_ble_eq_true rfl) d_AL_grow2_41 (fun H locs hP hD hS => ?_)
  have hP : va_P G.1 cls_all [(o, .inr (11, [.ref q37, .int (nI 10), .int mcn])), (ea, .inl (G.2.1 4, 10, .inr (.inr (.inr (.inr g))))), (q37, .inl (G.2.1 4, 15, .inr (.inr (.inr (.inr (va_cpy g (fun _ => none) 0 0 10))))))] H := hP
  have hD : va_D A [(o, .inr (11, [.ref q37, .int (nI 10), .int mcn])), (ea, .inl (G.2.1 4, 10, .inr (.inr (.inr (.inr g))))), (q37, .inl (G.2.1 4, 15, .inr (.inr (.inr (.inr (va_cpy g (fun _ => none) 0 0 10))))))] := hD
  exact mm_arQ (some q37) rfl hx hb hr (Or.inr ⟨_, rfl⟩) hk hS d_AL_grow2_44 ⟨_, rfl, hP, hD⟩
set_option maxHeartbeats 4000000 in
set_option maxRecDepth 100000 in
theorem c_AL_grow1G (l : Launch) (G : mm_G) {A : Nat → Prop} (o ea : Nat) (mcn : Int32) (g : Nat → Option Nat) (hD : va_D A [(o, .inr (11, [.ref ea, .int (nI 10), .int mcn])), (ea, .inl (G.2.1 4, 10, .inr (.inr (.inr (.inr g)))))]) : Met l y_AL_grow1 [.code y_AL_grow1 b_AL_grow1 1 (some (.array (.object "java/lang/Object")))] { frames := 4, cells := 1, slots := 15, locals := 127 } (mm_Pre G [.ref o] (fun H => va_P G.1 cls_all [(o, .inr (11, [.ref ea, .int (nI 10), .int mcn])), (ea, .inl (G.2.1 4, 10, .inr (.inr (.inr (.inr g)))))] H ∧ (∀ q, H.size ≤ q → A q) ∧ EL G A 10 g H)) (mm_Qq (fun r H => ∃ q, r = some q ∧ va_P G.1 cls_all [(o, .inr (11, [.ref q, .int (nI 10), .int mcn])), (ea, .inl (G.2.1 4, 10, .inr (.inr (.inr (.inr g))))), (q, .inl (G.2.1 4, 15, .inr (.inr (.inr (.inr (va_cpy g (fun _ => none) 0 0 10))))))] H ∧ va_D A [(o, .inr (11, [.ref q, .int (nI 10), .int mcn])), (ea, .inl (G.2.1 4, 10, .inr (.inr (.inr (.inr g))))), (q, .inl (G.2.1 4, 15, .inr (.inr (.inr (.inr (va_cpy g (fun _ => none) 0 0 10))))))]) A) 1 15 A := by
  refine mm_of (by decide) (Nat.le_of_ble_eq_true rfl) ?_
  intro p e s m below meth c ls hx hb hr hk hml hown hnm hK h0 hl
  have hl : lv_has ls 1 [(0, .ref o)] := hl
  obtain ⟨hP, hA, hE⟩ := h0
  have hS : va_S A s.heap s.heap [] := va_S.rf
  refine lv_aload_n hx hb d_AL_grow1_0 rfl (lv_at hl 0 rfl) ?_
  refine lv_aload_n hx hb d_AL_grow1_1 rfl (lv_at hl 0 rfl) ?_
  refine mm_get (v := .int (nI 10)) hK hx hb hown lg_AL_48 hP 0 rfl rfl d_AL_grow1_2 ?_
  refine lv_iconst hx hb d_AL_grow1_5 ci_1 ?_
  refine lv_iadd hx hb d_AL_grow1_6 ?_
  refine mm_ti (y := nI 11) (by decide) ?_
  refine mm_qq (mm_runV hK ⟨hx, hb, hml, hown⟩ lk_AL_69 (c_AL_grow2G l G o ea mcn g hD) ⟨rfl, rfl, by decide, by decide⟩ (mm_rc hK hP 0 rfl rfl) ⟨hP, (fun q h => hA q (Nat.le_trans hS.1 h)), hE.at hS⟩ rfl hl.1 rfl (Nat.le_of_ble_eq_true rfl) ⟨by decide, by decide⟩ d_AL_grow1_7) hS (fun q h => h) (fun r7 H locs e7 hz1 hk1 hS => ?_)
  obtain ⟨q7, rfl, hP, hD⟩ := e7
  refine W.widen (k := 1) (n := 15) (by decide) (by decide) ?_
  exact mm_arQ (some q7) rfl hx hb hr (Or.inr ⟨_, rfl⟩) hk hS d_AL_grow1_10 ⟨_, rfl, hP, hD⟩
set_option maxHeartbeats 4000000 in
set_option maxRecDepth 100000 in
theorem c_AL_add2R (l : Launch) (G : mm_G) {A : Nat → Prop} (o ea cap n : Nat) (mcn : Int32) (g : Nat → Option Nat) (qn cq : Nat) (hcq : cq < 8) (qf : List Value) (hqA : ¬ A qn) (hn : n < cap) (hcap : cap < 100) (hD : va_D A [(o, .inr (11, [.ref ea, .int (nI n), .int mcn])), (ea, .inl (G.2.1 4, cap, .inr (.inr (.inr (.inr g)))))]) : Met l y_AL_add2 [.code y_AL_add2 b_AL_add2 4 none] { frames := 0, cells := 0, slots := 0, locals := 0 } (mm_Pre G [.ref o, .ref qn, .ref ea, .int (nI n)] (fun H => va_P G.1 cls_all [(o, .inr (11, [.ref ea, .int (nI n), .int mcn])), (ea, .inl (G.2.1 4, cap, .inr (.inr (.inr (.inr g)))))] H ∧ va_at G.1 cls_all (qn, .inr (cq, qf)) H)) (mm_Qv (fun H => va_P G.1 cls_all [(o, .inr (11, [.ref ea, .int (nI (n + 1)), .int mcn])), (ea, .inl (G.2.1 4, cap, .inr (.inr (.inr (.inr (va_up g n (some qn)))))))] H) A) 0 0 A := by
  refine mm_of (by decide) (Nat.le_of_ble_eq_true rfl) ?_
  intro p e s m below meth c ls hx hb hr hk hml hown hnm hK h0 hl
  have hl : lv_has ls 4 [(0, .ref o), (1, .ref qn), (2, .ref ea), (3, .int (nI n))] := hl
  obtain ⟨hP, hQ⟩ := h0
  have hS : va_S A s.heap s.heap [] := va_S.rf
  refine lv_iload_n hx hb d_AL_add2_0 rfl (lv_at hl 3 rfl) ?_
  refine lv_aload_n hx hb d_AL_add2_1 rfl (lv_at hl 2 rfl) ?_
  refine va_alen (v := nI cap) hx hb hK.2.1 hP 1 4 rfl rfl rfl d_AL_add2_2 ?_
  refine lv_icmp_ne hx hb d_AL_add2_3 (tgt := 11) (by decide) (fun c3 => ?_) (fun h9 => by have h9 : n = cap := nb_nef (by omega) (by omega) h9; exfalso; omega)
  have c3 : n ≠ cap := nb_net (by omega) (by omega) c3
  refine lv_aload_n hx hb d_AL_add2_11 rfl (lv_at hl 2 rfl) ?_
  refine lv_iload_n hx hb d_AL_add2_12 rfl (lv_at hl 3 rfl) ?_
  refine lv_aload_n hx hb d_AL_add2_13 rfl (lv_at hl 1 rfl) ?_
  refine mm_aast hK hx hb hP hD hS 1 rfl (by omega) (i := n) (by omega) (anyA hK hcq (va_at.kept hQ (hS.2.1 _ (va_at.lt hQ) hqA))) d_AL_add2_14 (fun H locs hP hD hS => ?_)
  have hP : va_P G.1 cls_all [(o, .inr (11, [.ref ea, .int (nI n), .int mcn])), (ea, .inl (G.2.1 4, cap, .inr (.inr (.inr (.inr (va_up g n (some qn)))))))] H := hP
  have hD : va_D A [(o, .inr (11, [.ref ea, .int (nI n), .int mcn])), (ea, .inl (G.2.1 4, cap, .inr (.inr (.inr (.inr (va_up g n (some qn)))))))] := hD
  refine lv_aload_n hx hb d_AL_add2_15 rfl (lv_at hl 0 rfl) ?_
  refine lv_iload_n hx hb d_AL_add2_16 rfl (lv_at hl 3 rfl) ?_
  refine lv_iconst hx hb d_AL_add2_17 ci_1 ?_
  refine lv_iadd hx hb d_AL_add2_18 ?_
  refine mm_ti (nI_add _ _) ?_
  refine mm_put (v := .int (nI (n + 1))) hK hx hb hown lp_AL_48 hP hD hS 0 rfl rfl rfl (Nat.le_of_ble_eq_true rfl) d_AL_add2_19 (fun H locs hP hD hS => ?_)
  have hP : va_P G.1 cls_all [(o, .inr (11, [.ref ea, .int (nI (n + 1)), .int mcn])), (ea, .inl (G.2.1 4, cap, .inr (.inr (.inr (.inr (va_up g n (some qn)))))))] H := hP
  have hD : va_D A [(o, .inr (11, [.ref ea, .int (nI (n + 1)), .int mcn])), (ea, .inl (G.2.1 4, cap, .inr (.inr (.inr (.inr (va_up g n (some qn)))))))] := hD
  exact mm_vrQ hx hb hr hk hS d_AL_add2_22 hP
set_option maxHeartbeats 4000000 in
set_option maxRecDepth 100000 in
theorem c_AL_add2V (l : Launch) (G : mm_G) {A : Nat → Prop} (Z : Nat × Nat) (o : Nat) (mcn : Int32) (qn cq : Nat) (hcq : cq < 8) (qf : List Value) (hqA : ¬ A qn) (hD : va_D A [(o, .inr (11, [.ref Z.1, .int (nI 0), .int mcn]))]) : Met l y_AL_add2 [.code y_AL_add2 b_AL_add2 4 none] { frames := 3, cells := 1, slots := 10, locals := 57 } (mn_Pre G A Z [.ref o, .ref qn, .ref Z.1, .int (nI 0)] (fun H => va_P G.1 cls_all [(o, .inr (11, [.ref Z.1, .int (nI 0), .int mcn]))] H ∧ (∀ q, H.size ≤ q → A q) ∧ va_at G.1 cls_all (qn, .inr (cq, qf)) H)) (mm_Qv (fun H => ∃ q, va_P G.1 cls_all [(o, .inr (11, [.ref q, .int (nI 1), .int mcn])), (q, .inl (G.2.1 4, 10, .inr (.inr (.inr (.inr (va_up (fun _ => none) 0 (some qn)))))))] H ∧ va_D A [(o, .inr (11, [.ref q, .int (nI 1), .int mcn])), (q, .inl (G.2.1 4, 10, .inr (.inr (.inr (.inr (va_up (fun _ => none) 0 (some qn)))))))]) A) 1 10 A := by
  refine mn_of (by decide) (Nat.le_of_ble_eq_true rfl) ?_
  intro p e s m below meth c ls hx hb hr hk hml hown hnm hK hT h0 hl
  have hl : lv_has ls 4 [(0, .ref o), (1, .ref qn), (2, .ref Z.1), (3, .int (nI 0))] := hl
  obtain ⟨hP, hA, hQ⟩ := h0
  have hS : va_S A s.heap s.heap [] := va_S.rf
  refine lv_iload_n hx hb d_AL_add2_0 rfl (lv_at hl 3 rfl) ?_
  refine lv_aload_n hx hb d_AL_add2_1 rfl (lv_at hl 2 rfl) ?_
  refine va_tlen (v := nI 0) hx hb hT.2.1 hS rfl d_AL_add2_2 ?_
  refine lv_icmp_ne hx hb d_AL_add2_3 (tgt := 11) (by decide) (fun h9 => absurd h9 (by decide)) (fun c3 => ?_)
  have c3 : 0 = 0 := nb_nef (by omega) (by omega) c3
  refine lv_aload_n hx hb d_AL_add2_6 rfl (lv_at hl 0 rfl) ?_
  refine mm_qq (mn_runV hK hT hS (fun q h => h) ⟨hx, hb, hml, hown⟩ lk_AL_129 (c_AL_grow1V l G Z o mcn hD) ⟨rfl, rfl, by decide, by decide⟩ (mm_rc hK hP 0 rfl rfl) ⟨hP, (fun q h => hA q (Nat.le_trans hS.1 h))⟩ rfl hl.1 rfl (Nat.le_of_ble_eq_true rfl) ⟨by decide, by decide⟩ d_AL_add2_7) hS (fun q h => h) (fun r7 H locs e7 hz1 hk1 hS => ?_)
  obtain ⟨q7, rfl, hP, hD⟩ := e7
  refine W.widen (k := 1) (n := 10) (by decide) (by decide) ?_
  refine lv_astore_n (lv' := [(2, .ref q7), (0, .ref o), (1, .ref qn), (3, .int (nI 0))]) hx hb d_AL_add2_10 rfl hl (by decide) rfl (fun ls hl => ?_)
  refine lv_aload_n hx hb d_AL_add2_11 rfl (lv_at hl 0 rfl) ?_
  refine lv_iload_n hx hb d_AL_add2_12 rfl (lv_at hl 3 rfl) ?_
  refine lv_aload_n hx hb d_AL_add2_13 rfl (lv_at hl 2 rfl) ?_
  refine mm_aast hK hx hb hP hD hS 1 rfl (by decide) (i := 0) (by omega) (anyA hK hcq (va_at.kept hQ (hS.2.1 _ (va_at.lt hQ) hqA))) d_AL_add2_14 (fun H locs hP hD hS => ?_)
  have hP : va_P G.1 cls_all [(o, .inr (11, [.ref q7, .int (nI 0), .int mcn])), (q7, .inl (G.2.1 4, 10, .inr (.inr (.inr (.inr (va_up (fun _ => none) 0 (some qn)))))))] H := hP
  have hD : va_D A [(o, .inr (11, [.ref q7, .int (nI 0), .int mcn])), (q7, .inl (G.2.1 4, 10, .inr (.inr (.inr (.inr (va_up (fun _ => none) 0 (some qn)))))))] := hD
  refine lv_aload_n hx hb d_AL_add2_15 rfl (lv_at hl 1 rfl) ?_
  refine lv_iload_n hx hb d_AL_add2_16 rfl (lv_at hl 3 rfl) ?_
  refine lv_iconst hx hb d_AL_add2_17 ci_1 ?_
  refine lv_iadd hx hb d_AL_add2_18 ?_
  refine mm_ti (y := nI 1) (by decide) ?_
  refine mm_put (v := .int (nI 1)) hK hx hb hown lp_AL_48 hP hD hS 0 rfl rfl rfl (Nat.le_of_ble_eq_true rfl) d_AL_add2_19 (fun H locs hP hD hS => ?_)
  have hP : va_P G.1 cls_all [(o, .inr (11, [.ref q7, .int (nI 1), .int mcn])), (q7, .inl (G.2.1 4, 10, .inr (.inr (.inr (.inr (va_up (fun _ => none) 0 (some qn)))))))] H := hP
  have hD : va_D A [(o, .inr (11, [.ref q7, .int (nI 1), .int mcn])), (q7, .inl (G.2.1 4, 10, .inr (.inr (.inr (.inr (va_up (fun _ => none) 0 (some qn)))))))] := hD
  exact mm_vrQ hx hb hr hk hS d_AL_add2_22 ⟨_, hP, hD⟩
set_option maxHeartbeats 4000000 in
set_option maxRecDepth 100000 in
theorem c_AL_add2G (l : Launch) (G : mm_G) {A : Nat → Prop} (o ea : Nat) (mcn : Int32) (g : Nat → Option Nat) (qn cq : Nat) (hcq : cq < 8) (qf : List Value) (hqA : ¬ A qn) (hD : va_D A [(o, .inr (11, [.ref ea, .int (nI 10), .int mcn])), (ea, .inl (G.2.1 4, 10, .inr (.inr (.inr (.inr g)))))]) : Met l y_AL_add2 [.code y_AL_add2 b_AL_add2 4 none] { frames := 5, cells := 1, slots := 15, locals := 147 } (mm_Pre G [.ref o, .ref qn, .ref ea, .int (nI 10)] (fun H => va_P G.1 cls_all [(o, .inr (11, [.ref ea, .int (nI 10), .int mcn])), (ea, .inl (G.2.1 4, 10, .inr (.inr (.inr (.inr g)))))] H ∧ (∀ q, H.size ≤ q → A q) ∧ EL G A 10 g H ∧ va_at G.1 cls_all (qn, .inr (cq, qf)) H)) (mm_Qv (fun H => ∃ q, va_P G.1 cls_all [(o, .inr (11, [.ref q, .int (nI 11), .int mcn])), (ea, .inl (G.2.1 4, 10, .inr (.inr (.inr (.inr g))))), (q, .inl (G.2.1 4, 15, .inr (.inr (.inr (.inr (va_up (va_cpy g (fun _ => none) 0 0 10) 10 (some qn)))))))] H ∧ va_D A [(o, .inr (11, [.ref q, .int (nI 11), .int mcn])), (ea, .inl (G.2.1 4, 10, .inr (.inr (.inr (.inr g))))), (q, .inl (G.2.1 4, 15, .inr (.inr (.inr (.inr (va_up (va_cpy g (fun _ => none) 0 0 10) 10 (some qn)))))))]) A) 1 15 A := by
  refine mm_of (by decide) (Nat.le_of_ble_eq_true rfl) ?_
  intro p e s m below meth c ls hx hb hr hk hml hown hnm hK h0 hl
  have hl : lv_has ls 4 [(0, .ref o), (1, .ref qn), (2, .ref ea), (3, .int (nI 10))] := hl
  obtain ⟨hP, hA, hE, hQ⟩ := h0
  have hS : va_S A s.heap s.heap [] := va_S.rf
  refine lv_iload_n hx hb d_AL_add2_0 rfl (lv_at hl 3 rfl) ?_
  refine lv_aload_n hx hb d_AL_add2_1 rfl (lv_at hl 2 rfl) ?_
  refine va_alen (v := nI 10) hx hb hK.2.1 hP 1 4 rfl rfl rfl d_AL_add2_2 ?_
  refine lv_icmp_ne hx hb d_AL_add2_3 (tgt := 11) (by decide) (fun h9 => absurd h9 (by decide)) (fun c3 => ?_)
  have c3 : 10 = 10 := nb_nef (by omega) (by omega) c3
  refine lv_aload_n hx hb d_AL_add2_6 rfl (lv_at hl 0 rfl) ?_
  refine mm_qq (mm_runV hK ⟨hx, hb, hml, hown⟩ lk_AL_129 (c_AL_grow1G l G o ea mcn g hD) ⟨rfl, rfl, by decide, by decide⟩ (mm_rc hK hP 0 rfl rfl) ⟨hP, (fun q h => hA q (Nat.le_trans hS.1 h)), hE.at hS⟩ rfl hl.1 rfl (Nat.le_of_ble_eq_true rfl) ⟨by decide, by decide⟩ d_AL_add2_7) hS (fun q h => h) (fun r7 H locs e7 hz1 hk1 hS => ?_)
  obtain ⟨q7, rfl, hP, hD⟩ := e7
  refine W.widen (k := 1) (n := 15) (by decide) (by decide) ?_
  refine lv_astore_n (lv' := [(2, .ref q7), (0, .ref o), (1, .ref qn), (3, .int (nI 10))]) hx hb d_AL_add2_10 rfl hl (by decide) rfl (fun ls hl => ?_)
  refine lv_aload_n hx hb d_AL_add2_11 rfl (lv_at hl 0 rfl) ?_
  refine lv_iload_n hx hb d_AL_add2_12 rfl (lv_at hl 3 rfl) ?_
  refine lv_aload_n hx hb d_AL_add2_13 rfl (lv_at hl 2 rfl) ?_
  refine mm_aast hK hx hb hP hD hS 2 rfl (by decide) (i := 10) (by omega) (anyA hK hcq (va_at.kept hQ (hS.2.1 _ (va_at.lt hQ) hqA))) d_AL_add2_14 (fun H locs hP hD hS => ?_)
  have hP : va_P G.1 cls_all [(o, .inr (11, [.ref q7, .int (nI 10), .int mcn])), (ea, .inl (G.2.1 4, 10, .inr (.inr (.inr (.inr g))))), (q7, .inl (G.2.1 4, 15, .inr (.inr (.inr (.inr (va_up (va_cpy g (fun _ => none) 0 0 10) 10 (some qn)))))))] H := hP
  have hD : va_D A [(o, .inr (11, [.ref q7, .int (nI 10), .int mcn])), (ea, .inl (G.2.1 4, 10, .inr (.inr (.inr (.inr g))))), (q7, .inl (G.2.1 4, 15, .inr (.inr (.inr (.inr (va_up (va_cpy g (fun _ => none) 0 0 10) 10 (some qn)))))))] := hD
  refine lv_aload_n hx hb d_AL_add2_15 rfl (lv_at hl 1 rfl) ?_
  refine lv_iload_n hx hb d_AL_add2_16 rfl (lv_at hl 3 rfl) ?_
  refine lv_iconst hx hb d_AL_add2_17 ci_1 ?_
  refine lv_iadd hx hb d_AL_add2_18 ?_
  refine mm_ti (y := nI 11) (by decide) ?_
  refine mm_put (v := .int (nI 11)) hK hx hb hown lp_AL_48 hP hD hS 0 rfl rfl rfl (Nat.le_of_ble_eq_true rfl) d_AL_add2_19 (fun H locs hP hD hS => ?_)
  have hP : va_P G.1 cls_all [(o, .inr (11, [.ref q7, .int (nI 11), .int mcn])), (ea, .inl (G.2.1 4, 10, .inr (.inr (.inr (.inr g))))), (q7, .inl (G.2.1 4, 15, .inr (.inr (.inr (.inr (va_up (va_cpy g (fun _ => none) 0 0 10) 10 (some qn)))))))] H := hP
  have hD : va_D A [(o, .inr (11, [.ref q7, .int (nI 11), .int mcn])), (ea, .inl (G.2.1 4, 10, .inr (.inr (.inr (.inr g))))), (q7, .inl (G.2.1 4, 15, .inr (.inr (.inr (.inr (va_up (va_cpy g (fun _ => none) 0 0 10) 10 (some qn)))))))] := hD
  exact mm_vrQ hx hb hr hk hS d_AL_add2_22 ⟨_, hP, hD⟩
set_option maxHeartbeats 4000000 in
set_option maxRecDepth 100000 in
theorem c_AL_add1R (l : Launch) (G : mm_G) {A : Nat → Prop} (o ea cap n : Nat) (mcn : Int32) (g : Nat → Option Nat) (qn cq : Nat) (hcq : cq < 8) (qf : List Value) (hqA : ¬ A qn) (hn : n < cap) (hcap : cap < 100) (hD : va_D A [(o, .inr (11, [.ref ea, .int (nI n), .int mcn])), (ea, .inl (G.2.1 4, cap, .inr (.inr (.inr (.inr g)))))]) : Met l y_AL_add1 [.code y_AL_add1 b_AL_add1 2 (some .boolean)] { frames := 1, cells := 0, slots := 0, locals := 23 } (mm_Pre G [.ref o, .ref qn] (fun H => va_P G.1 cls_all [(o, .inr (11, [.ref ea, .int (nI n), .int mcn])), (ea, .inl (G.2.1 4, cap, .inr (.inr (.inr (.inr g)))))] H ∧ va_at G.1 cls_all (qn, .inr (cq, qf)) H)) (mm_Qi (fun r H => r = bI true ∧ va_P G.1 cls_all [(o, .inr (11, [.ref ea, .int (nI (n + 1)), .int (mcn + nI 1)])), (ea, .inl (G.2.1 4, cap, .inr (.inr (.inr (.inr (va_up g n (some qn)))))))] H) A) 0 0 A := by
  refine mm_of (by decide) (Nat.le_of_ble_eq_true rfl) ?_
  intro p e s m below meth c ls hx hb hr hk hml hown hnm hK h0 hl
  have hl : lv_has ls 2 [(0, .ref o), (1, .ref qn)] := hl
  obtain ⟨hP, hQ⟩ := h0
  have hS : va_S A s.heap s.heap [] := va_S.rf
  refine lv_aload_n hx hb d_AL_add1_0 rfl (lv_at hl 0 rfl) ?_
  refine lv_dup hx hb d_AL_add1_1 rfl ?_
  refine mm_get (v := .int mcn) hK hx hb hown lg_AL_63 hP 0 rfl rfl d_AL_add1_2 ?_
  refine lv_iconst hx hb d_AL_add1_5 ci_1 ?_
  refine lv_iadd hx hb d_AL_add1_6 ?_
  refine mm_put (v := .int (mcn + (nI 1))) hK hx hb hown lp_AL_63 hP hD hS 0 rfl rfl rfl (Nat.le_of_ble_eq_true rfl) d_AL_add1_7 (fun H locs hP hD hS => ?_)
  have hP : va_P G.1 cls_all [(o, .inr (11, [.ref ea, .int (nI n), .int (mcn + (nI 1))])), (ea, .inl (G.2.1 4, cap, .inr (.inr (.inr (.inr g)))))] H := hP
  have hD : va_D A [(o, .inr (11, [.ref ea, .int (nI n), .int (mcn + (nI 1))])), (ea, .inl (G.2.1 4, cap, .inr (.inr (.inr (.inr g)))))] := hD
  refine lv_aload_n hx hb d_AL_add1_10 rfl (lv_at hl 0 rfl) ?_
  refine lv_aload_n hx hb d_AL_add1_11 rfl (lv_at hl 1 rfl) ?_
  refine lv_aload_n hx hb d_AL_add1_12 rfl (lv_at hl 0 rfl) ?_
  refine mm_get (v := .ref ea) hK hx hb hown lg_AL_9 hP 0 rfl rfl d_AL_add1_13 ?_
  refine lv_aload_n hx hb d_AL_add1_16 rfl (lv_at hl 0 rfl) ?_
  refine mm_get (v := .int (nI n)) hK hx hb hown lg_AL_48 hP 0 rfl rfl d_AL_add1_17 ?_
  refine mm_qv (mm_runV hK ⟨hx, hb, hml, hown⟩ lk_AL_131 (c_AL_add2R l G o ea cap n (mcn + nI 1) g qn cq hcq qf hqA hn hcap hD) ⟨rfl, rfl, by decide, by decide⟩ (mm_rc hK hP 0 rfl rfl) ⟨hP, (va_at.kept hQ (hS.2.1 _ (va_at.lt hQ) hqA))⟩ rfl hl.1 rfl (Nat.le_of_ble_eq_true rfl) ⟨by decide, by decide⟩ d_AL_add1_20) hS (fun q h => h) (fun H locs e20 hz1 hk1 hS => ?_)
  have hP := e20
  have hD : va_D A [(o, .inr (11, [.ref ea, .int (nI (n + 1)), .int (mcn + nI 1)])), (ea, .inl (G.2.1 4, cap, .inr (.inr (.inr (.inr (va_up g n (some qn)))))))] := mD hD rfl
  refine W.widen (k := 0) (n := 0) (by decide) (by decide) ?_
  refine lv_iconst hx hb d_AL_add1_23 ci_1 ?_
  exact mm_zrQ true (by first | rfl | decide) hx hb hr hk hS d_AL_add1_24 ⟨rfl, hP⟩
set_option maxHeartbeats 4000000 in
set_option maxRecDepth 100000 in
theorem c_AL_add1V (l : Launch) (G : mm_G) {A : Nat → Prop} (Z : Nat × Nat) (o : Nat) (mcn : Int32) (qn cq : Nat) (hcq : cq < 8) (qf : List Value) (hqA : ¬ A qn) (hD : va_D A [(o, .inr (11, [.ref Z.1, .int (nI 0), .int mcn]))]) : Met l y_AL_add1 [.code y_AL_add1 b_AL_add1 2 (some .boolean)] { frames := 4, cells := 1, slots := 10, locals := 80 } (mn_Pre G A Z [.ref o, .ref qn] (fun H => va_P G.1 cls_all [(o, .inr (11, [.ref Z.1, .int (nI 0), .int mcn]))] H ∧ (∀ q, H.size ≤ q → A q) ∧ va_at G.1 cls_all (qn, .inr (cq, qf)) H)) (mm_Qi (fun r H => r = bI true ∧ ∃ q, va_P G.1 cls_all [(o, .inr (11, [.ref q, .int (nI 1), .int (mcn + nI 1)])), (q, .inl (G.2.1 4, 10, .inr (.inr (.inr (.inr (va_up (fun _ => none) 0 (some qn)))))))] H ∧ va_D A [(o, .inr (11, [.ref q, .int (nI 1), .int (mcn + nI 1)])), (q, .inl (G.2.1 4, 10, .inr (.inr (.inr (.inr (va_up (fun _ => none) 0 (some qn)))))))]) A) 1 10 A := by
  refine mn_of (by decide) (Nat.le_of_ble_eq_true rfl) ?_
  intro p e s m below meth c ls hx hb hr hk hml hown hnm hK hT h0 hl
  have hl : lv_has ls 2 [(0, .ref o), (1, .ref qn)] := hl
  obtain ⟨hP, hA, hQ⟩ := h0
  have hS : va_S A s.heap s.heap [] := va_S.rf
  refine lv_aload_n hx hb d_AL_add1_0 rfl (lv_at hl 0 rfl) ?_
  refine lv_dup hx hb d_AL_add1_1 rfl ?_
  refine mm_get (v := .int mcn) hK hx hb hown lg_AL_63 hP 0 rfl rfl d_AL_add1_2 ?_
  refine lv_iconst hx hb d_AL_add1_5 ci_1 ?_
  refine lv_iadd hx hb d_AL_add1_6 ?_
  refine mm_put (v := .int (mcn + (nI 1))) hK hx hb hown lp_AL_63 hP hD hS 0 rfl rfl rfl (Nat.le_of_ble_eq_true rfl) d_AL_add1_7 (fun H locs hP hD hS => ?_)
  have hP : va_P G.1 cls_all [(o, .inr (11, [.ref Z.1, .int (nI 0), .int (mcn + (nI 1))]))] H := hP
  have hD : va_D A [(o, .inr (11, [.ref Z.1, .int (nI 0), .int (mcn + (nI 1))]))] := hD
  refine lv_aload_n hx hb d_AL_add1_10 rfl (lv_at hl 0 rfl) ?_
  refine lv_aload_n hx hb d_AL_add1_11 rfl (lv_at hl 1 rfl) ?_
  refine lv_aload_n hx hb d_AL_add1_12 rfl (lv_at hl 0 rfl) ?_
  refine mm_get (v := .ref Z.1) hK hx hb hown lg_AL_9 hP 0 rfl rfl d_AL_add1_13 ?_
  refine lv_aload_n hx hb d_AL_add1_16 rfl (lv_at hl 0 rfl) ?_
  refine mm_get (v := .int (nI 0)) hK hx hb hown lg_AL_48 hP 0 rfl rfl d_AL_add1_17 ?_
  refine mm_qv (mn_runV hK hT hS (fun q h => h) ⟨hx, hb, hml, hown⟩ lk_AL_131 (c_AL_add2V l G Z o (mcn + nI 1) qn cq hcq qf hqA hD) ⟨rfl, rfl, by decide, by decide⟩ (mm_rc hK hP 0 rfl rfl) ⟨hP, (fun q h => hA q (Nat.le_trans hS.1 h)), (va_at.kept hQ (hS.2.1 _ (va_at.lt hQ) hqA))⟩ rfl hl.1 rfl (Nat.le_of_ble_eq_true rfl) ⟨by decide, by decide⟩ d_AL_add1_20) hS (fun q h => h) (fun H locs e20 hz1 hk1 hS => ?_)
  obtain ⟨q20, hP, hD⟩ := e20
  refine W.widen (k := 1) (n := 10) (by decide) (by decide) ?_
  refine lv_iconst hx hb d_AL_add1_23 ci_1 ?_
  exact mm_zrQ true (by first | rfl | decide) hx hb hr hk hS d_AL_add1_24 ⟨rfl, _, hP, hD⟩
set_option maxHeartbeats 4000000 in
set_option maxRecDepth 100000 in
theorem c_AL_add1G (l : Launch) (G : mm_G) {A : Nat → Prop} (o ea : Nat) (mcn : Int32) (g : Nat → Option Nat) (qn cq : Nat) (hcq : cq < 8) (qf : List Value) (hqA : ¬ A qn) (hD : va_D A [(o, .inr (11, [.ref ea, .int (nI 10), .int mcn])), (ea, .inl (G.2.1 4, 10, .inr (.inr (.inr (.inr g)))))]) : Met l y_AL_add1 [.code y_AL_add1 b_AL_add1 2 (some .boolean)] { frames := 6, cells := 1, slots := 15, locals := 170 } (mm_Pre G [.ref o, .ref qn] (fun H => va_P G.1 cls_all [(o, .inr (11, [.ref ea, .int (nI 10), .int mcn])), (ea, .inl (G.2.1 4, 10, .inr (.inr (.inr (.inr g)))))] H ∧ (∀ q, H.size ≤ q → A q) ∧ EL G A 10 g H ∧ va_at G.1 cls_all (qn, .inr (cq, qf)) H)) (mm_Qi (fun r H => r = bI true ∧ ∃ q, va_P G.1 cls_all [(o, .inr (11, [.ref q, .int (nI 11), .int (mcn + nI 1)])), (ea, .inl (G.2.1 4, 10, .inr (.inr (.inr (.inr g))))), (q, .inl (G.2.1 4, 15, .inr (.inr (.inr (.inr (va_up (va_cpy g (fun _ => none) 0 0 10) 10 (some qn)))))))] H ∧ va_D A [(o, .inr (11, [.ref q, .int (nI 11), .int (mcn + nI 1)])), (ea, .inl (G.2.1 4, 10, .inr (.inr (.inr (.inr g))))), (q, .inl (G.2.1 4, 15, .inr (.inr (.inr (.inr (va_up (va_cpy g (fun _ => none) 0 0 10) 10 (some qn)))))))]) A) 1 15 A := by
  refine mm_of (by decide) (Nat.le_of_ble_eq_true rfl) ?_
  intro p e s m below meth c ls hx hb hr hk hml hown hnm hK h0 hl
  have hl : lv_has ls 2 [(0, .ref o), (1, .ref qn)] := hl
  obtain ⟨hP, hA, hE, hQ⟩ := h0
  have hS : va_S A s.heap s.heap [] := va_S.rf
  refine lv_aload_n hx hb d_AL_add1_0 rfl (lv_at hl 0 rfl) ?_
  refine lv_dup hx hb d_AL_add1_1 rfl ?_
  refine mm_get (v := .int mcn) hK hx hb hown lg_AL_63 hP 0 rfl rfl d_AL_add1_2 ?_
  refine lv_iconst hx hb d_AL_add1_5 ci_1 ?_
  refine lv_iadd hx hb d_AL_add1_6 ?_
  refine mm_put (v := .int (mcn + (nI 1))) hK hx hb hown lp_AL_63 hP hD hS 0 rfl rfl rfl (Nat.le_of_ble_eq_true rfl) d_AL_add1_7 (fun H locs hP hD hS => ?_)
  have hP : va_P G.1 cls_all [(o, .inr (11, [.ref ea, .int (nI 10), .int (mcn + (nI 1))])), (ea, .inl (G.2.1 4, 10, .inr (.inr (.inr (.inr g)))))] H := hP
  have hD : va_D A [(o, .inr (11, [.ref ea, .int (nI 10), .int (mcn + (nI 1))])), (ea, .inl (G.2.1 4, 10, .inr (.inr (.inr (.inr g)))))] := hD
  refine lv_aload_n hx hb d_AL_add1_10 rfl (lv_at hl 0 rfl) ?_
  refine lv_aload_n hx hb d_AL_add1_11 rfl (lv_at hl 1 rfl) ?_
  refine lv_aload_n hx hb d_AL_add1_12 rfl (lv_at hl 0 rfl) ?_
  refine mm_get (v := .ref ea) hK hx hb hown lg_AL_9 hP 0 rfl rfl d_AL_add1_13 ?_
  refine lv_aload_n hx hb d_AL_add1_16 rfl (lv_at hl 0 rfl) ?_
  refine mm_get (v := .int (nI 10)) hK hx hb hown lg_AL_48 hP 0 rfl rfl d_AL_add1_17 ?_
  refine mm_qv (mm_runV hK ⟨hx, hb, hml, hown⟩ lk_AL_131 (c_AL_add2G l G o ea (mcn + nI 1) g qn cq hcq qf hqA hD) ⟨rfl, rfl, by decide, by decide⟩ (mm_rc hK hP 0 rfl rfl) ⟨hP, (fun q h => hA q (Nat.le_trans hS.1 h)), hE.at hS, (va_at.kept hQ (hS.2.1 _ (va_at.lt hQ) hqA))⟩ rfl hl.1 rfl (Nat.le_of_ble_eq_true rfl) ⟨by decide, by decide⟩ d_AL_add1_20) hS (fun q h => h) (fun H locs e20 hz1 hk1 hS => ?_)
  obtain ⟨q20, hP, hD⟩ := e20
  refine W.widen (k := 1) (n := 15) (by decide) (by decide) ?_
  refine lv_iconst hx hb d_AL_add1_23 ci_1 ?_
  exact mm_zrQ true (by first | rfl | decide) hx hb hr hk hS d_AL_add1_24 ⟨rfl, _, hP, hD⟩
set_option maxHeartbeats 4000000 in
set_option maxRecDepth 100000 in
theorem c_AL_clearR (l : Launch) (G : mm_G) {A : Nat → Prop} (o ea cap n : Nat) (mcn : Int32) (g : Nat → Option Nat) (hn : n ≤ cap) (hcap : cap < 100) (hD : va_D A [(o, .inr (11, [.ref ea, .int (nI n), .int mcn])), (ea, .inl (G.2.1 4, cap, .inr (.inr (.inr (.inr g)))))]) : Met l y_AL_clear [.code y_AL_clear b_AL_clear 4 none] { frames := 0, cells := 0, slots := 0, locals := 0 } (mm_Pre G [.ref o] (fun H => va_P G.1 cls_all [(o, .inr (11, [.ref ea, .int (nI n), .int mcn])), (ea, .inl (G.2.1 4, cap, .inr (.inr (.inr (.inr g)))))] H)) (mm_Qv (fun H => ∃ g9, va_P G.1 cls_all [(o, .inr (11, [.ref ea, .int (nI 0), .int (mcn + nI 1)])), (ea, .inl (G.2.1 4, cap, .inr (.inr (.inr (.inr g9)))))] H) A) 0 0 A := by
  refine mm_of (by decide) (Nat.le_of_ble_eq_true rfl) ?_
  intro p e s m below meth c ls hx hb hr hk hml hown hnm hK hP hl
  have hl : lv_has ls 4 [(0, .ref o)] := hl
  have hS : va_S A s.heap s.heap [] := va_S.rf
  refine lv_aload_n hx hb d_AL_clear_0 rfl (lv_at hl 0 rfl) ?_
  refine lv_dup hx hb d_AL_clear_1 rfl ?_
  refine mm_get (v := .int mcn) hK hx hb hown lg_AL_63 hP 0 rfl rfl d_AL_clear_2 ?_
  refine lv_iconst hx hb d_AL_clear_5 ci_1 ?_
  refine lv_iadd hx hb d_AL_clear_6 ?_
  refine mm_put (v := .int (mcn + (nI 1))) hK hx hb hown lp_AL_63 hP hD hS 0 rfl rfl rfl (Nat.le_of_ble_eq_true rfl) d_AL_clear_7 (fun H locs hP hD hS => ?_)
  have hP : va_P G.1 cls_all [(o, .inr (11, [.ref ea, .int (nI n), .int (mcn + (nI 1))])), (ea, .inl (G.2.1 4, cap, .inr (.inr (.inr (.inr g)))))] H := hP
  have hD : va_D A [(o, .inr (11, [.ref ea, .int (nI n), .int (mcn + (nI 1))])), (ea, .inl (G.2.1 4, cap, .inr (.inr (.inr (.inr g)))))] := hD
  refine lv_aload_n hx hb d_AL_clear_10 rfl (lv_at hl 0 rfl) ?_
  refine mm_get (v := .ref ea) hK hx hb hown lg_AL_9 hP 0 rfl rfl d_AL_clear_11 ?_
  refine lv_astore_n (lv' := [(1, .ref ea), (0, .ref o)]) hx hb d_AL_clear_14 rfl hl (by decide) rfl (fun ls hl => ?_)
  refine lv_aload_n hx hb d_AL_clear_15 rfl (lv_at hl 1 rfl) ?_
  refine mm_get (v := .int (nI n)) hK hx hb hown lg_AL_48 hP 0 rfl rfl d_AL_clear_16 ?_
  refine lv_istore_n (lv' := [(2, .int (nI n)), (1, .ref ea), (0, .ref o)]) hx hb d_AL_clear_19 rfl hl (by decide) rfl (fun ls hl => ?_)
  refine lv_aload_n hx hb d_AL_clear_20 rfl (lv_at hl 2 rfl) ?_
  refine lv_iconst hx hb d_AL_clear_21 ci_0 ?_
  refine lv_dup_x1 hx hb d_AL_clear_22 rfl rfl ?_
  refine mm_put (v := .int (nI 0)) hK hx hb hown lp_AL_48 hP hD hS 0 rfl rfl rfl (Nat.le_of_ble_eq_true rfl) d_AL_clear_23 (fun H locs hP hD hS => ?_)
  have hP : va_P G.1 cls_all [(o, .inr (11, [.ref ea, .int (nI 0), .int (mcn + (nI 1))])), (ea, .inl (G.2.1 4, cap, .inr (.inr (.inr (.inr g)))))] H := hP
  have hD : va_D A [(o, .inr (11, [.ref ea, .int (nI 0), .int (mcn + (nI 1))])), (ea, .inl (G.2.1 4, cap, .inr (.inr (.inr (.inr g)))))] := hD
  refine lv_istore_n (lv' := [(3, .int (nI 0)), (2, .int (nI n)), (1, .ref ea), (0, .ref o)]) hx hb d_AL_clear_26 rfl hl (by decide) rfl (fun ls hl => ?_)
  refine mm_loop (σ := (Nat) × (Nat → Option Nat)) (fun x ls H locs => match x with | (k, g8) => lv_has ls 4 [(0, .ref o), (1, .ref ea), (2, .int (nI n)), (3, .int (nI k))] ∧ va_P G.1 cls_all [(o, .inr (11, [.ref ea, .int (nI 0), .int (mcn + (nI 1))])), (ea, .inl (G.2.1 4, cap, .inr (.inr (.inr (.inr g8)))))] H ∧ va_D A [(o, .inr (11, [.ref ea, .int (nI 0), .int (mcn + (nI 1))])), (ea, .inl (G.2.1 4, cap, .inr (.inr (.inr (.inr g8)))))] ∧ va_S A s.heap H locs ∧ (k ≤ n)) (fun x => match x with | (k, g8) => n - k) ?_ (0, g) _ _ _ ⟨(lv_sub hl [3, 2, 1, 0] rfl), hP, hD, hS, (Nat.zero_le _)⟩
  rintro ⟨k, g8⟩ ls H locs ⟨hl, hP, hD, hS, hk9⟩ ih27
  refine lv_iload_n hx hb d_AL_clear_27 rfl (lv_at hl 3 rfl) ?_
  refine lv_iload_n hx hb d_AL_clear_28 rfl (lv_at hl 2 rfl) ?_
  refine lv_icmp_ge hx hb d_AL_clear_29 (tgt := 42) (by decide) (fun c29 => ?_) (fun c29 => ?_)
  · have c29 : k ≥ n := nb_get (by omega) (by omega) c29
    exact mm_vrQ hx hb hr hk hS d_AL_clear_42 ⟨_, hP⟩
  · have c29 : k < n := nb_gef (by omega) (by omega) c29
    refine lv_aload_n hx hb d_AL_clear_32 rfl (lv_at hl 1 rfl) ?_
    refine lv_iload_n hx hb d_AL_clear_33 rfl (lv_at hl 3 rfl) ?_
    refine lv_null hx hb d_AL_clear_34 ?_
    refine mm_aastN hK hx hb hP hD hS 1 rfl (by omega) (i := k) (by omega) d_AL_clear_35 (fun H locs hP hD hS => ?_)
    have hP : va_P G.1 cls_all [(o, .inr (11, [.ref ea, .int (nI 0), .int (mcn + (nI 1))])), (ea, .inl (G.2.1 4, cap, .inr (.inr (.inr (.inr (va_up g8 k none))))))] H := hP
    have hD : va_D A [(o, .inr (11, [.ref ea, .int (nI 0), .int (mcn + (nI 1))])), (ea, .inl (G.2.1 4, cap, .inr (.inr (.inr (.inr (va_up g8 k none))))))] := hD
    refine lv_iinc (k := 3) (v := nI (k + 1)) (lv' := [(3, .int (nI (k + 1))), (0, .ref o), (1, .ref ea), (2, .int (nI n))]) hx hb d_AL_clear_36 hl rfl (inc1 _) (by decide) rfl (fun ls hl => ?_)
    refine lv_goto hx hb d_AL_clear_39 (tgt := 27) (by decide) ?_
    exact ih27 ((k + 1), (va_up g8 k none)) _ _ _ ⟨(lv_sub hl [1, 2, 3, 0] rfl), hP, hD, hS, (by omega)⟩ (by (try dsimp only); omega)
set_option maxHeartbeats 4000000 in
set_option maxRecDepth 100000 in
theorem c_AL_clearV (l : Launch) (G : mm_G) {A : Nat → Prop} (o Z1 : Nat) (mcn : Int32) (hD : va_D A [(o, .inr (11, [.ref Z1, .int (nI 0), .int mcn]))]) : Met l y_AL_clear [.code y_AL_clear b_AL_clear 4 none] { frames := 0, cells := 0, slots := 0, locals := 0 } (mm_Pre G [.ref o] (fun H => va_P G.1 cls_all [(o, .inr (11, [.ref Z1, .int (nI 0), .int mcn]))] H)) (mm_Qv (fun H => va_P G.1 cls_all [(o, .inr (11, [.ref Z1, .int (nI 0), .int (mcn + nI 1)]))] H) A) 0 0 A := by
  refine mm_of (by decide) (Nat.le_of_ble_eq_true rfl) ?_
  intro p e s m below meth c ls hx hb hr hk hml hown hnm hK hP hl
  have hl : lv_has ls 4 [(0, .ref o)] := hl
  have hS : va_S A s.heap s.heap [] := va_S.rf
  refine lv_aload_n hx hb d_AL_clear_0 rfl (lv_at hl 0 rfl) ?_
  refine lv_dup hx hb d_AL_clear_1 rfl ?_
  refine mm_get (v := .int mcn) hK hx hb hown lg_AL_63 hP 0 rfl rfl d_AL_clear_2 ?_
  refine lv_iconst hx hb d_AL_clear_5 ci_1 ?_
  refine lv_iadd hx hb d_AL_clear_6 ?_
  refine mm_put (v := .int (mcn + (nI 1))) hK hx hb hown lp_AL_63 hP hD hS 0 rfl rfl rfl (Nat.le_of_ble_eq_true rfl) d_AL_clear_7 (fun H locs hP hD hS => ?_)
  have hP : va_P G.1 cls_all [(o, .inr (11, [.ref Z1, .int (nI 0), .int (mcn + (nI 1))]))] H := hP
  have hD : va_D A [(o, .inr (11, [.ref Z1, .int (nI 0), .int (mcn + (nI 1))]))] := hD
  refine lv_aload_n hx hb d_AL_clear_10 rfl (lv_at hl 0 rfl) ?_
  refine mm_get (v := .ref Z1) hK hx hb hown lg_AL_9 hP 0 rfl rfl d_AL_clear_11 ?_
  refine lv_astore_n (lv' := [(1, .ref Z1), (0, .ref o)]) hx hb d_AL_clear_14 rfl hl (by decide) rfl (fun ls hl => ?_)
  refine lv_aload_n hx hb d_AL_clear_15 rfl (lv_at hl 1 rfl) ?_
  refine mm_get (v := .int (nI 0)) hK hx hb hown lg_AL_48 hP 0 rfl rfl d_AL_clear_16 ?_
  refine lv_istore_n (lv' := [(2, .int (nI 0)), (1, .ref Z1), (0, .ref o)]) hx hb d_AL_clear_19 rfl hl (by decide) rfl (fun ls hl => ?_)
  refine lv_aload_n hx hb d_AL_clear_20 rfl (lv_at hl 2 rfl) ?_
  refine lv_iconst hx hb d_AL_clear_21 ci_0 ?_
  refine lv_dup_x1 hx hb d_AL_clear_22 rfl rfl ?_
  refine mm_put (v := .int (nI 0)) hK hx hb hown lp_AL_48 hP hD hS 0 rfl rfl rfl (Nat.le_of_ble_eq_true rfl) d_AL_clear_23 (fun H locs hP hD hS => ?_)
  have hP : va_P G.1 cls_all [(o, .inr (11, [.ref Z1, .int (nI 0), .int (mcn + (nI 1))]))] H := hP
  have hD : va_D A [(o, .inr (11, [.ref Z1, .int (nI 0), .int (mcn + (nI 1))]))] := hD
  refine lv_istore_n (lv' := [(3, .int (nI 0)), (2, .int (nI 0)), (1, .ref Z1), (0, .ref o)]) hx hb d_AL_clear_26 rfl hl (by decide) rfl (fun ls hl => ?_)
  refine lv_iload_n hx hb d_AL_clear_27 rfl (lv_at hl 0 rfl) ?_
  refine lv_iload_n hx hb d_AL_clear_28 rfl (lv_at hl 1 rfl) ?_
  refine lv_icmp_ge hx hb d_AL_clear_29 (tgt := 42) (by decide) (fun c29 => ?_) (fun h9 => absurd h9 (by decide))
  have c29 : 0 ≥ 0 := nb_get (by omega) (by omega) c29
  exact mm_vrQ hx hb hr hk hS d_AL_clear_42 hP
set_option maxHeartbeats 4000000 in
set_option maxRecDepth 100000 in
theorem c_Itr_init (l : Launch) (G : mm_G) {A : Nat → Prop} (o la : Nat) (v0 v1 : Value) (mcn : Int32) (hD : va_D A [(o, .inr (12, [.int 0, .int 0, .int 0, .null]))]) (hRN : ∀ q ∈ ([(la, .inr (11, [v0, v1, .int mcn]))] : va_W), ¬ A q.1) : Met l y_Itr_init [.code y_Itr_init b_Itr_init 2 none] { frames := 1, cells := 0, slots := 0, locals := 12 } (mm_Pre G [.ref o, .ref la] (fun H => va_P G.1 cls_all [(o, .inr (12, [.int 0, .int 0, .int 0, .null]))] H ∧ va_P G.1 cls_all [(la, .inr (11, [v0, v1, .int mcn]))] H)) (mm_Qv (fun H => va_P G.1 cls_all [(o, .inr (12, [.int 0, .int (-1), .int mcn, .ref la]))] H) A) 0 0 A := by
  refine mm_of (by decide) (Nat.le_of_ble_eq_true rfl) ?_
  intro p e s m below meth c ls hx hb hr hk hml hown hnm hK h0 hl
  have hl : lv_has ls 2 [(0, .ref o), (1, .ref la)] := hl
  obtain ⟨hP, hR⟩ := h0
  have hS : va_S A s.heap s.heap [] := va_S.rf
  refine lv_aload_n hx hb d_Itr_init_0 rfl (lv_at hl 0 rfl) ?_
  refine lv_aload_n hx hb d_Itr_init_1 rfl (lv_at hl 1 rfl) ?_
  refine mm_putF (v := .ref la) hK hx hb hown hnm lp_Itr_1 hP hD hS 0 rfl rfl rfl (Nat.le_of_ble_eq_true rfl) d_Itr_init_2 (fun H locs hP hD hS => ?_)
  have hP : va_P G.1 cls_all [(o, .inr (12, [.int 0, .int 0, .int 0, .ref la]))] H := hP
  have hD : va_D A [(o, .inr (12, [.int 0, .int 0, .int 0, .ref la]))] := hD
  refine lv_aload_n hx hb d_Itr_init_5 rfl (lv_at hl 0 rfl) ?_
  refine W.objInit hx hb hown (hK.w kw_585) (hK.w kw_33) (hK.w kw_34) rfl (by rw [hml]; exact hl.1) rfl d_Itr_init_6 (Nat.le_of_ble_eq_true rfl) (Nat.le_of_ble_eq_true rfl) ?_
  refine W.eq (g2 := F0 m 9 ls []) rfl ?_
  refine lv_aload_n hx hb d_Itr_init_9 rfl (lv_at hl 0 rfl) ?_
  refine lv_iconst hx hb d_Itr_init_10 ci_m1 ?_
  refine mm_put (v := .int (-1)) hK hx hb hown lp_Itr_13 hP hD hS 0 rfl rfl rfl (Nat.le_of_ble_eq_true rfl) d_Itr_init_11 (fun H locs hP hD hS => ?_)
  have hP : va_P G.1 cls_all [(o, .inr (12, [.int 0, .int (-1), .int 0, .ref la]))] H := hP
  have hD : va_D A [(o, .inr (12, [.int 0, .int (-1), .int 0, .ref la]))] := hD
  refine lv_aload_n hx hb d_Itr_init_14 rfl (lv_at hl 0 rfl) ?_
  refine lv_aload_n hx hb d_Itr_init_15 rfl (lv_at hl 0 rfl) ?_
  refine mm_get (v := .ref la) hK hx hb hown lg_Itr_1 hP 0 rfl rfl d_Itr_init_16 ?_
  refine mm_get (v := .int mcn) hK hx hb hown lg_Itr_17 (mm_ro hR hRN hS) 0 rfl rfl d_Itr_init_19 ?_
  refine mm_put (v := .int mcn) hK hx hb hown lp_Itr_22 hP hD hS 0 rfl rfl rfl (Nat.le_of_ble_eq_true rfl) d_Itr_init_22 (fun H locs hP hD hS => ?_)
  have hP : va_P G.1 cls_all [(o, .inr (12, [.int 0, .int (-1), .int mcn, .ref la]))] H := hP
  have hD : va_D A [(o, .inr (12, [.int 0, .int (-1), .int mcn, .ref la]))] := hD
  exact mm_vrQ hx hb hr hk hS d_Itr_init_25 hP
set_option maxHeartbeats 4000000 in
set_option maxRecDepth 100000 in
theorem c_AL_iterator (l : Launch) (G : mm_G) {A : Nat → Prop} (o : Nat) (v0 v1 : Value) (mcn : Int32) (hRN : ∀ q ∈ ([(o, .inr (11, [v0, v1, .int mcn]))] : va_W), ¬ A q.1) : Met l y_AL_iterator [.code y_AL_iterator b_AL_iterator 1 (some (.object "java/util/Iterator"))] { frames := 2, cells := 1, slots := 4, locals := 33 } (mm_Pre G [.ref o] (fun H => (∀ q, H.size ≤ q → A q) ∧ va_P G.1 cls_all [(o, .inr (11, [v0, v1, .int mcn]))] H)) (mm_Qq (fun r H => ∃ q, r = some q ∧ va_P G.1 cls_all [(q, .inr (12, [.int (nI 0), .int (-1), .int mcn, .ref o]))] H ∧ va_D A [(q, .inr (12, [.int (nI 0), .int (-1), .int mcn, .ref o]))]) A) 1 4 A := by
  refine mm_of (by decide) (Nat.le_of_ble_eq_true rfl) ?_
  intro p e s m below meth c ls hx hb hr hk hml hown hnm hK h0 hl
  have hl : lv_has ls 1 [(0, .ref o)] := hl
  obtain ⟨hA, hR⟩ := h0
  have hS : va_S A s.heap s.heap [] := va_S.rf
  have hP : va_P G.1 cls_all [] s.heap := fun k q h => by simp at h
  have hD : va_D A [] := ⟨fun i j p q h => by simp at h, fun k q h => by simp at h⟩
  refine mm_new hK hx hb hown ln_AL_267 hP hD hS hA (by decide) (by decide) d_AL_iterator_0 (fun q0 H hP hD hS => ?_)
  have hP : va_P G.1 cls_all [(q0, .inr (12, [.int 0, .int 0, .int 0, .null]))] H := hP
  have hD : va_D A [(q0, .inr (12, [.int 0, .int 0, .int 0, .null]))] := hD
  refine W.widen (k := 1) (n := 4) (by decide) (by decide) ?_
  refine lv_dup hx hb d_AL_iterator_3 rfl ?_
  refine lv_aload_n hx hb d_AL_iterator_4 rfl (lv_at hl 0 rfl) ?_
  refine mm_qv (mm_runI hK ⟨hx, hb, hml, hown⟩ lk_AL_269 (c_Itr_init l G q0 o v0 v1 mcn hD hRN) ⟨rfl, rfl, by decide, by decide⟩ ⟨hP, mm_ro hR hRN hS⟩ rfl hl.1 rfl (Nat.le_of_ble_eq_true rfl) ⟨by decide, by decide⟩ d_AL_iterator_5) hS (fun q h => h) (fun H locs e5 hz1 hk1 hS => ?_)
  have hP := e5
  have hD : va_D A [(q0, .inr (12, [.int (nI 0), .int (-1), .int mcn, .ref o]))] := mD hD rfl
  exact mm_arQ (some q0) rfl hx hb hr (Or.inl ⟨_, rfl⟩) hk hS d_AL_iterator_8 ⟨_, rfl, hP, hD⟩
set_option maxHeartbeats 4000000 in
set_option maxRecDepth 100000 in
theorem c_Itr_hasNext (l : Launch) (G : mm_G) (o la cu n : Nat) (i1 i2 v0 v2 : Value) (h1 : cu < 100) (h2 : n < 100) : Met l y_Itr_hasNext [.code y_Itr_hasNext b_Itr_hasNext 1 (some .boolean)] { frames := 0, cells := 0, slots := 0, locals := 0 } (mm_Pre G [.ref o] (fun H => va_P G.1 cls_all [(o, .inr (12, [.int (nI cu), i1, i2, .ref la])), (la, .inr (11, [v0, .int (nI n), v2]))] H)) (vp_Si (fun r => r = bI (decide (cu ≠ n)))) 0 0 (fun _ => False) := by
  refine mm_of (by decide) (Nat.le_of_ble_eq_true rfl) ?_
  intro p e s m below meth c ls hx hb hr hk hml hown hnm hK hP hl
  have hl : lv_has ls 1 [(0, .ref o)] := hl
  refine lv_aload_n hx hb d_Itr_hasNext_0 rfl (lv_at hl 0 rfl) ?_
  refine mm_get (v := .int (nI cu)) hK hx hb hown lg_Itr_25 hP 0 rfl rfl d_Itr_hasNext_1 ?_
  refine lv_aload_n hx hb d_Itr_hasNext_4 rfl (lv_at hl 0 rfl) ?_
  refine mm_get (v := .ref la) hK hx hb hown lg_Itr_1 hP 0 rfl rfl d_Itr_hasNext_5 ?_
  refine mm_get (v := .int (nI n)) hK hx hb hown lg_Itr_28 hP 1 rfl rfl d_Itr_hasNext_8 ?_
  refine lv_icmp_eq hx hb d_Itr_hasNext_11 (tgt := 18) (by decide) (fun c11 => ?_) (fun c11 => ?_)
  · have c11 : cu = n := nb_eqt (by omega) (by omega) c11
    refine lv_iconst hx hb d_Itr_hasNext_18 ci_0 ?_
    exact mm_zrS false (by first | rfl | decide) hx hb hr hk d_Itr_hasNext_19 (bI_f (by omega))
  · have c11 : cu ≠ n := nb_eqf (by omega) (by omega) c11
    refine lv_iconst hx hb d_Itr_hasNext_14 ci_1 ?_
    refine lv_goto hx hb d_Itr_hasNext_15 (tgt := 19) (by decide) ?_
    exact mm_zrS true (by first | rfl | decide) hx hb hr hk d_Itr_hasNext_19 (bI_t (by omega))
set_option maxHeartbeats 4000000 in
set_option maxRecDepth 100000 in
theorem c_Itr_check (l : Launch) (G : mm_G) (o la : Nat) (i0 i1 v0 v1 : Value) (mcn : Int32) : Met l y_Itr_checkForComodification [.code y_Itr_checkForComodification b_Itr_checkForComodification 1 none] { frames := 0, cells := 0, slots := 0, locals := 0 } (mm_Pre G [.ref o] (fun H => va_P G.1 cls_all [(o, .inr (12, [i0, i1, .int mcn, .ref la])), (la, .inr (11, [v0, v1, .int mcn]))] H)) (va_Sv (fun _ => True)) 0 0 (fun _ => False) := by
  refine mm_of (by decide) (Nat.le_of_ble_eq_true rfl) ?_
  intro p e s m below meth c ls hx hb hr hk hml hown hnm hK hP hl
  have hl : lv_has ls 1 [(0, .ref o)] := hl
  refine lv_aload_n hx hb d_Itr_checkForComodification_0 rfl (lv_at hl 0 rfl) ?_
  refine mm_get (v := .ref la) hK hx hb hown lg_Itr_1 hP 0 rfl rfl d_Itr_checkForComodification_1 ?_
  refine mm_get (v := .int mcn) hK hx hb hown lg_Itr_17 hP 1 rfl rfl d_Itr_checkForComodification_4 ?_
  refine lv_aload_n hx hb d_Itr_checkForComodification_7 rfl (lv_at hl 0 rfl) ?_
  refine mm_get (v := .int mcn) hK hx hb hown lg_Itr_22 hP 0 rfl rfl d_Itr_checkForComodification_8 ?_
  refine lv_icmp_eq hx hb d_Itr_checkForComodification_11 (tgt := 22) (by decide) (fun c11 => ?_) (fun h9 => by exact absurd rfl h9)
  exact mm_vrS hx hb hr hk d_Itr_checkForComodification_22 trivial
set_option maxHeartbeats 4000000 in
set_option maxRecDepth 100000 in
theorem c_Itr_next (l : Launch) (G : mm_G) {A : Nat → Prop} (o la ea cap cu n : Nat) (i1 : Value) (mcn : Int32) (g : Nat → Option Nat) (hcu : cu < n) (hn : n ≤ cap) (hcap : cap < 100) (hD : va_D A [(o, .inr (12, [.int (nI cu), i1, .int mcn, .ref la]))]) (hRN : ∀ q ∈ ([(la, .inr (11, [.ref ea, .int (nI n), .int mcn])), (ea, .inl (G.2.1 4, cap, .inr (.inr (.inr (.inr g)))))] : va_W), ¬ A q.1) : Met l y_Itr_next [.code y_Itr_next b_Itr_next 3 (some (.object "java/lang/Object"))] { frames := 1, cells := 0, slots := 0, locals := 20 } (mm_Pre G [.ref o] (fun H => va_P G.1 cls_all [(o, .inr (12, [.int (nI cu), i1, .int mcn, .ref la]))] H ∧ va_P G.1 cls_all [(la, .inr (11, [.ref ea, .int (nI n), .int mcn])), (ea, .inl (G.2.1 4, cap, .inr (.inr (.inr (.inr g)))))] H)) (mm_Qq (fun r H => r = g cu ∧ va_P G.1 cls_all [(o, .inr (12, [.int (nI (cu + 1)), .int (nI cu), .int mcn, .ref la]))] H) A) 0 0 A := by
  refine mm_of (by decide) (Nat.le_of_ble_eq_true rfl) ?_
  intro p e s m below meth c ls hx hb hr hk hml hown hnm hK h0 hl
  have hl : lv_has ls 3 [(0, .ref o)] := hl
  obtain ⟨hP, hR⟩ := h0
  have hS : va_S A s.heap s.heap [] := va_S.rf
  refine lv_aload_n hx hb d_Itr_next_0 rfl (lv_at hl 0 rfl) ?_
  refine mm_sv (mm_runV hK ⟨hx, hb, hml, hown⟩ lk_Itr_31 (c_Itr_check l G o la (.int (nI cu)) i1 (.ref ea) (.int (nI n)) mcn) ⟨rfl, rfl, by decide, by decide⟩ (mm_rc hK hP 0 rfl rfl) (hP.app ((mm_ro hR hRN hS).sub (ws' := [(la, .inr (11, [.ref ea, .int (nI n), .int mcn]))]) [0] rfl)) rfl hl.1 rfl (Nat.le_of_ble_eq_true rfl) ⟨by decide, by decide⟩ d_Itr_next_1) (fun _ => ?_)
  refine lv_aload_n hx hb d_Itr_next_4 rfl (lv_at hl 0 rfl) ?_
  refine mm_get (v := .int (nI cu)) hK hx hb hown lg_Itr_25 hP 0 rfl rfl d_Itr_next_5 ?_
  refine lv_istore_n (lv' := [(1, .int (nI cu)), (0, .ref o)]) hx hb d_Itr_next_8 rfl hl (by decide) rfl (fun ls hl => ?_)
  refine lv_iload_n hx hb d_Itr_next_9 rfl (lv_at hl 0 rfl) ?_
  refine lv_aload_n hx hb d_Itr_next_10 rfl (lv_at hl 1 rfl) ?_
  refine mm_get (v := .ref la) hK hx hb hown lg_Itr_1 hP 0 rfl rfl d_Itr_next_11 ?_
  refine mm_get (v := .int (nI n)) hK hx hb hown lg_Itr_28 (mm_ro hR hRN hS) 0 rfl rfl d_Itr_next_14 ?_
  refine lv_icmp_lt hx hb d_Itr_next_17 (tgt := 28) (by decide) (fun c17 => ?_) (fun h9 => by have h9 : cu ≥ n := nb_ltf (by omega) (by omega) h9; exfalso; omega)
  have c17 : cu < n := nb_ltt (by omega) (by omega) c17
  refine lv_aload_n hx hb d_Itr_next_28 rfl (lv_at hl 1 rfl) ?_
  refine mm_get (v := .ref la) hK hx hb hown lg_Itr_1 hP 0 rfl rfl d_Itr_next_29 ?_
  refine mm_get (v := .ref ea) hK hx hb hown lg_Itr_37 (mm_ro hR hRN hS) 0 rfl rfl d_Itr_next_32 ?_
  refine lv_astore_n (lv' := [(2, .ref ea), (1, .int (nI cu)), (0, .ref o)]) hx hb d_Itr_next_35 rfl hl (by decide) rfl (fun ls hl => ?_)
  refine lv_iload_n hx hb d_Itr_next_36 rfl (lv_at hl 1 rfl) ?_
  refine lv_aload_n hx hb d_Itr_next_37 rfl (lv_at hl 0 rfl) ?_
  refine va_alen (v := nI cap) hx hb hK.2.1 (mm_ro hR hRN hS) 1 4 rfl rfl rfl d_Itr_next_38 ?_
  refine lv_icmp_lt hx hb d_Itr_next_39 (tgt := 50) (by decide) (fun c39 => ?_) (fun h9 => by have h9 : cu ≥ cap := nb_ltf (by omega) (by omega) h9; exfalso; omega)
  have c39 : cu < cap := nb_ltt (by omega) (by omega) c39
  refine lv_aload_n hx hb d_Itr_next_50 rfl (lv_at hl 2 rfl) ?_
  refine lv_iload_n hx hb d_Itr_next_51 rfl (lv_at hl 1 rfl) ?_
  refine lv_iconst hx hb d_Itr_next_52 ci_1 ?_
  refine lv_iadd hx hb d_Itr_next_53 ?_
  refine mm_ti (nI_add _ _) ?_
  refine mm_put (v := .int (nI (cu + 1))) hK hx hb hown lp_Itr_25 hP hD hS 0 rfl rfl rfl (Nat.le_of_ble_eq_true rfl) d_Itr_next_54 (fun H locs hP hD hS => ?_)
  have hP : va_P G.1 cls_all [(o, .inr (12, [.int (nI (cu + 1)), i1, .int mcn, .ref la]))] H := hP
  have hD : va_D A [(o, .inr (12, [.int (nI (cu + 1)), i1, .int mcn, .ref la]))] := hD
  refine lv_aload_n hx hb d_Itr_next_57 rfl (lv_at hl 0 rfl) ?_
  refine lv_aload_n hx hb d_Itr_next_58 rfl (lv_at hl 2 rfl) ?_
  refine lv_iload_n hx hb d_Itr_next_59 rfl (lv_at hl 1 rfl) ?_
  refine lv_dup_x1 hx hb d_Itr_next_60 rfl rfl ?_
  refine mm_put (v := .int (nI cu)) hK hx hb hown lp_Itr_13 hP hD hS 0 rfl rfl rfl (Nat.le_of_ble_eq_true rfl) d_Itr_next_61 (fun H locs hP hD hS => ?_)
  have hP : va_P G.1 cls_all [(o, .inr (12, [.int (nI (cu + 1)), .int (nI cu), .int mcn, .ref la]))] H := hP
  have hD : va_D A [(o, .inr (12, [.int (nI (cu + 1)), .int (nI cu), .int mcn, .ref la]))] := hD
  refine mm_aald hK hx hb (mm_ro hR hRN hS) 1 rfl (by omega) (i := cu) (by omega) d_Itr_next_64 ?_
  exact mm_arQ (g cu) rfl hx hb hr (Or.inl ⟨_, rfl⟩) hk hS d_Itr_next_65 ⟨rfl, hP⟩
