set_option maxHeartbeats 4000000 in
set_option maxRecDepth 100000 in
theorem c_Mon_madeV (l : Launch) (G : mm_G) {A : Nat → Prop} (Z : Nat × Nat) (la : Nat) (mcn : Int32) (o : Nat) (v1 v3 : Value) (qn cq : Nat) (hcq : cq < 8) (qf : List Value) (hqA : ¬ A qn) (hRN : ∀ q ∈ ([(o, .inr (10, [.ref la, v1, v3]))] : va_W), ¬ A q.1) (hD : va_D A [(la, .inr (11, [.ref Z.1, .int (nI 0), .int mcn]))]) : Met l y_Mon_made [.code y_Mon_made b_Mon_made 2 (some .int)] { frames := 8, cells := 1, slots := 15, locals := 300 } (mn_Pre G A Z [.ref o, .ref qn] (fun H => va_P G.1 cls_all [(la, .inr (11, [.ref Z.1, .int (nI 0), .int mcn]))] H ∧ (∀ q, H.size ≤ q → A q) ∧ va_P G.1 cls_all [(o, .inr (10, [.ref la, v1, v3]))] H ∧ va_at G.1 cls_all (qn, .inr (cq, qf)) H)) (mm_Qi (fun r H => r = nI 0 ∧ ∃ q, va_P G.1 cls_all [(la, .inr (11, [.ref q, .int (nI 1), .int (mcn + nI 1)])), (q, .inl (G.2.1 4, 10, .inr (.inr (.inr (.inr (va_up (fun _ => none) 0 (some qn)))))))] H ∧ va_D A [(la, .inr (11, [.ref q, .int (nI 1), .int (mcn + nI 1)])), (q, .inl (G.2.1 4, 10, .inr (.inr (.inr (.inr (va_up (fun _ => none) 0 (some qn)))))))]) A) 1 15 A := by
  refine mn_of (by decide) (Nat.le_of_ble_eq_true rfl) ?_
  intro p e s m below meth c ls hx hb hr hk hml hown hnm hK hT h0 hl
  have hl : lv_has ls 2 [(0, .ref o), (1, .ref qn)] := hl
  obtain ⟨hP, hA, hR, hQ⟩ := h0
  have hS : va_S A s.heap s.heap [] := va_S.rf
  refine lv_aload_n hx hb d_Mon_made_0 rfl (lv_at hl 0 rfl) ?_
  refine mm_get (v := .ref la) hK hx hb hown lg_Mon_18 (mm_ro hR hRN hS) 0 rfl rfl d_Mon_made_1 ?_
  refine lv_aload_n hx hb d_Mon_made_4 rfl (lv_at hl 1 rfl) ?_
  refine mm_qi (mn_runV hK hT hS (fun q h => h) ⟨hx, hb, hml, hown⟩ lk_Mon_43 (c_AL_add1V l G Z la mcn qn cq hcq qf hqA hD) ⟨rfl, rfl, by decide, by decide⟩ (mm_rc hK hP 0 rfl rfl) ⟨hP, (fun q h => hA q (Nat.le_trans hS.1 h)), (va_at.kept hQ (hS.2.1 _ (va_at.lt hQ) hqA))⟩ rfl hl.1 rfl (Nat.le_of_ble_eq_true rfl) ⟨by decide, by decide⟩ d_Mon_made_5) hS (fun q h => h) (fun r5 H locs e5 hz1 hk1 hS => ?_)
  obtain ⟨rfl, q5, hP, hD⟩ := e5
  refine W.widen (k := 1) (n := 10) (by decide) (by decide) ?_
  refine lv_pop hx hb d_Mon_made_8 rfl ?_
  refine lv_aload_n hx hb d_Mon_made_9 rfl (lv_at hl 0 rfl) ?_
  refine mm_get (v := .ref la) hK hx hb hown lg_Mon_18 (mm_ro hR hRN hS) 0 rfl rfl d_Mon_made_10 ?_
  refine mm_si (mm_runV hK ⟨hx, hb, hml, hown⟩ lk_Mon_29 (c_AL_size l G la (.ref q5) (.int (mcn + nI 1)) 1) ⟨rfl, rfl, by decide, by decide⟩ (mm_rc hK hP 0 rfl rfl) (hP.sub (ws' := [(la, .inr (11, [.ref q5, .int (nI 1), .int (mcn + nI 1)]))]) [0] rfl) rfl hl.1 rfl (Nat.le_of_ble_eq_true rfl) ⟨by decide, by decide⟩ d_Mon_made_13) (fun r13 e13 => ?_)
  subst e13
  refine lv_iconst hx hb d_Mon_made_16 ci_1 ?_
  refine lv_isub hx hb d_Mon_made_17 ?_
  refine mm_ti (y := nI 0) (by decide) ?_
  refine W.widen (k := 1) (n := 15) (by decide) (by decide) ?_
  exact mm_irQ hx hb hr hk hS d_Mon_made_18 ⟨rfl, _, hP, hD⟩
set_option maxHeartbeats 4000000 in
set_option maxRecDepth 100000 in
theorem c_Mon_madeR (l : Launch) (G : mm_G) {A : Nat → Prop} (la ea cap n : Nat) (mcn : Int32) (g : Nat → Option Nat) (hn : n < cap) (hcap : cap < 100) (o : Nat) (v1 v3 : Value) (qn cq : Nat) (hcq : cq < 8) (qf : List Value) (hqA : ¬ A qn) (hRN : ∀ q ∈ ([(o, .inr (10, [.ref la, v1, v3]))] : va_W), ¬ A q.1) (hD : va_D A [(la, .inr (11, [.ref ea, .int (nI n), .int mcn])), (ea, .inl (G.2.1 4, cap, .inr (.inr (.inr (.inr g)))))]) : Met l y_Mon_made [.code y_Mon_made b_Mon_made 2 (some .int)] { frames := 8, cells := 1, slots := 15, locals := 300 } (mm_Pre G [.ref o, .ref qn] (fun H => va_P G.1 cls_all [(la, .inr (11, [.ref ea, .int (nI n), .int mcn])), (ea, .inl (G.2.1 4, cap, .inr (.inr (.inr (.inr g)))))] H ∧ (∀ q, H.size ≤ q → A q) ∧ va_P G.1 cls_all [(o, .inr (10, [.ref la, v1, v3]))] H ∧ va_at G.1 cls_all (qn, .inr (cq, qf)) H)) (mm_Qi (fun r H => r = nI n ∧ va_P G.1 cls_all [(la, .inr (11, [.ref ea, .int (nI (n + 1)), .int (mcn + nI 1)])), (ea, .inl (G.2.1 4, cap, .inr (.inr (.inr (.inr (va_up g n (some qn)))))))] H) A) 1 15 A := by
  refine mm_of (by decide) (Nat.le_of_ble_eq_true rfl) ?_
  intro p e s m below meth c ls hx hb hr hk hml hown hnm hK h0 hl
  have hl : lv_has ls 2 [(0, .ref o), (1, .ref qn)] := hl
  obtain ⟨hP, hA, hR, hQ⟩ := h0
  have hS : va_S A s.heap s.heap [] := va_S.rf
  refine lv_aload_n hx hb d_Mon_made_0 rfl (lv_at hl 0 rfl) ?_
  refine mm_get (v := .ref la) hK hx hb hown lg_Mon_18 (mm_ro hR hRN hS) 0 rfl rfl d_Mon_made_1 ?_
  refine lv_aload_n hx hb d_Mon_made_4 rfl (lv_at hl 1 rfl) ?_
  refine mm_qi (mm_runV hK ⟨hx, hb, hml, hown⟩ lk_Mon_43 (c_AL_add1R l G la ea cap n mcn g qn cq hcq qf hqA hn hcap hD) ⟨rfl, rfl, by decide, by decide⟩ (mm_rc hK hP 0 rfl rfl) ⟨hP, (va_at.kept hQ (hS.2.1 _ (va_at.lt hQ) hqA))⟩ rfl hl.1 rfl (Nat.le_of_ble_eq_true rfl) ⟨by decide, by decide⟩ d_Mon_made_5) hS (fun q h => h) (fun r5 H locs e5 hz1 hk1 hS => ?_)
  obtain ⟨rfl, hP⟩ := e5
  have hD : va_D A [(la, .inr (11, [.ref ea, .int (nI (n + 1)), .int (mcn + nI 1)])), (ea, .inl (G.2.1 4, cap, .inr (.inr (.inr (.inr (va_up g n (some qn)))))))] := mD hD rfl
  refine lv_pop hx hb d_Mon_made_8 rfl ?_
  refine lv_aload_n hx hb d_Mon_made_9 rfl (lv_at hl 0 rfl) ?_
  refine mm_get (v := .ref la) hK hx hb hown lg_Mon_18 (mm_ro hR hRN hS) 0 rfl rfl d_Mon_made_10 ?_
  refine mm_si (mm_runV hK ⟨hx, hb, hml, hown⟩ lk_Mon_29 (c_AL_size l G la (.ref ea) (.int (mcn + nI 1)) (n + 1)) ⟨rfl, rfl, by decide, by decide⟩ (mm_rc hK hP 0 rfl rfl) (hP.sub (ws' := [(la, .inr (11, [.ref ea, .int (nI (n + 1)), .int (mcn + nI 1)]))]) [0] rfl) rfl hl.1 rfl (Nat.le_of_ble_eq_true rfl) ⟨by decide, by decide⟩ d_Mon_made_13) (fun r13 e13 => ?_)
  subst e13
  refine lv_iconst hx hb d_Mon_made_16 ci_1 ?_
  refine lv_isub hx hb d_Mon_made_17 ?_
  refine mm_ti (y := nI n) (nI_pred _) ?_
  refine W.widen (k := 1) (n := 15) (by decide) (by decide) ?_
  exact mm_irQ hx hb hr hk hS d_Mon_made_18 ⟨rfl, hP⟩
set_option maxHeartbeats 4000000 in
set_option maxRecDepth 100000 in
theorem c_Mon_madeG (l : Launch) (G : mm_G) {A : Nat → Prop} (la ea : Nat) (mcn : Int32) (g : Nat → Option Nat) (o : Nat) (v1 v3 : Value) (qn cq : Nat) (hcq : cq < 8) (qf : List Value) (hqA : ¬ A qn) (hRN : ∀ q ∈ ([(o, .inr (10, [.ref la, v1, v3]))] : va_W), ¬ A q.1) (hD : va_D A [(la, .inr (11, [.ref ea, .int (nI 10), .int mcn])), (ea, .inl (G.2.1 4, 10, .inr (.inr (.inr (.inr g)))))]) : Met l y_Mon_made [.code y_Mon_made b_Mon_made 2 (some .int)] { frames := 8, cells := 1, slots := 15, locals := 300 } (mm_Pre G [.ref o, .ref qn] (fun H => va_P G.1 cls_all [(la, .inr (11, [.ref ea, .int (nI 10), .int mcn])), (ea, .inl (G.2.1 4, 10, .inr (.inr (.inr (.inr g)))))] H ∧ (∀ q, H.size ≤ q → A q) ∧ va_P G.1 cls_all [(o, .inr (10, [.ref la, v1, v3]))] H ∧ va_at G.1 cls_all (qn, .inr (cq, qf)) H ∧ EL G A 10 g H)) (mm_Qi (fun r H => r = nI 10 ∧ ∃ q, va_P G.1 cls_all [(la, .inr (11, [.ref q, .int (nI 11), .int (mcn + nI 1)])), (ea, .inl (G.2.1 4, 10, .inr (.inr (.inr (.inr g))))), (q, .inl (G.2.1 4, 15, .inr (.inr (.inr (.inr (va_up (va_cpy g (fun _ => none) 0 0 10) 10 (some qn)))))))] H ∧ va_D A [(la, .inr (11, [.ref q, .int (nI 11), .int (mcn + nI 1)])), (ea, .inl (G.2.1 4, 10, .inr (.inr (.inr (.inr g))))), (q, .inl (G.2.1 4, 15, .inr (.inr (.inr (.inr (va_up (va_cpy g (fun _ => none) 0 0 10) 10 (some qn)))))))]) A) 1 15 A := by
  refine mm_of (by decide) (Nat.le_of_ble_eq_true rfl) ?_
  intro p e s m below meth c ls hx hb hr hk hml hown hnm hK h0 hl
  have hl : lv_has ls 2 [(0, .ref o), (1, .ref qn)] := hl
  obtain ⟨hP, hA, hR, hQ, hE⟩ := h0
  have hS : va_S A s.heap s.heap [] := va_S.rf
  refine lv_aload_n hx hb d_Mon_made_0 rfl (lv_at hl 0 rfl) ?_
  refine mm_get (v := .ref la) hK hx hb hown lg_Mon_18 (mm_ro hR hRN hS) 0 rfl rfl d_Mon_made_1 ?_
  refine lv_aload_n hx hb d_Mon_made_4 rfl (lv_at hl 1 rfl) ?_
  refine mm_qi (mm_runV hK ⟨hx, hb, hml, hown⟩ lk_Mon_43 (c_AL_add1G l G la ea mcn g qn cq hcq qf hqA hD) ⟨rfl, rfl, by decide, by decide⟩ (mm_rc hK hP 0 rfl rfl) ⟨hP, (fun q h => hA q (Nat.le_trans hS.1 h)), hE.at hS, (va_at.kept hQ (hS.2.1 _ (va_at.lt hQ) hqA))⟩ rfl hl.1 rfl (Nat.le_of_ble_eq_true rfl) ⟨by decide, by decide⟩ d_Mon_made_5) hS (fun q h => h) (fun r5 H locs e5 hz1 hk1 hS => ?_)
  obtain ⟨rfl, q5, hP, hD⟩ := e5
  refine W.widen (k := 1) (n := 15) (by decide) (by decide) ?_
  refine lv_pop hx hb d_Mon_made_8 rfl ?_
  refine lv_aload_n hx hb d_Mon_made_9 rfl (lv_at hl 0 rfl) ?_
  refine mm_get (v := .ref la) hK hx hb hown lg_Mon_18 (mm_ro hR hRN hS) 0 rfl rfl d_Mon_made_10 ?_
  refine mm_si (mm_runV hK ⟨hx, hb, hml, hown⟩ lk_Mon_29 (c_AL_size l G la (.ref q5) (.int (mcn + nI 1)) 11) ⟨rfl, rfl, by decide, by decide⟩ (mm_rc hK hP 0 rfl rfl) (hP.sub (ws' := [(la, .inr (11, [.ref q5, .int (nI 11), .int (mcn + nI 1)]))]) [0] rfl) rfl hl.1 rfl (Nat.le_of_ble_eq_true rfl) ⟨by decide, by decide⟩ d_Mon_made_13) (fun r13 e13 => ?_)
  subst e13
  refine lv_iconst hx hb d_Mon_made_16 ci_1 ?_
  refine lv_isub hx hb d_Mon_made_17 ?_
  refine mm_ti (y := nI 10) (by decide) ?_
  exact mm_irQ hx hb hr hk hS d_Mon_made_18 ⟨rfl, _, hP, hD⟩
