set_option maxHeartbeats 4000000 in
set_option maxRecDepth 100000 in
theorem c_Mod_make (l : Launch) (G : mm_G) (o : Nat) (ad : Nat → Nat) (nf : Nat) (wt : Bool) (np : Nat) (kK kW kF kS kL kE tm pr ga : Nat → Nat) (ho : Nat → Int64) (pa : Nat → Bool) (fr rg re : Nat → Nat) {A : Nat → Prop} (hD : va_D A (TW G o ad nf wt np kK kW kF kS kL kE tm pr ga ho pa fr rg re)) (k w a b : Nat) (hn : nf < 12) : Met l y_Mod_make [.code y_Mod_make b_Mod_make 5 (some .int)] { frames := 0, cells := 0, slots := 0, locals := 0 } (mm_Pre G [.ref o, .int (nI k), .int (nI w), .int (nI a), .int (nI b)] (fun H => va_P G.1 cls_all (TW G o ad nf wt np kK kW kF kS kL kE tm pr ga ho pa fr rg re) H)) (mm_Qi (fun r H => r = nI nf ∧ va_P G.1 cls_all (TW G o ad (nf + 1) wt np (va_up kK nf k) (va_up kW nf w) (va_up kF nf a) (va_up kS nf b) (va_up kL nf 0) (va_up kE nf 0) tm pr ga ho pa fr rg re) H) A) 0 0 A := by
  refine mm_of (by decide) (Nat.le_of_ble_eq_true rfl) ?_
  intro p e s m below meth c ls hx hb hr hk hml hown hnm hK hP hl
  have hl : lv_has ls 5 [(0, .ref o), (1, .int (nI k)), (2, .int (nI w)), (3, .int (nI a)), (4, .int (nI b))] := hl
  have hS : va_S A s.heap s.heap [] := va_S.rf
  refine lv_aload_n hx hb d_Mod_make_0 rfl (lv_at hl 0 rfl) ?_
  refine mm_get (v := .ref (ad 0)) hK hx hb hown lg_Mod_7 hP 0 rfl rfl d_Mod_make_1 ?_
  refine lv_aload_n hx hb d_Mod_make_4 rfl (lv_at hl 0 rfl) ?_
  refine mm_get (v := .int (nI nf)) hK hx hb hown lg_Mod_54 hP 0 rfl rfl d_Mod_make_5 ?_
  refine lv_iload_n hx hb d_Mod_make_8 rfl (lv_at hl 1 rfl) ?_
  refine mm_iastN (x := k) hK hx hb hP hD hS 1 rfl (by decide) (i := nf) (by omega) d_Mod_make_9 (fun H locs hP hD hS => ?_)
  have hP : va_P G.1 cls_all (TW G o ad nf wt np (va_up kK nf k) kW kF kS kL kE tm pr ga ho pa fr rg re) H := hP
  have hD : va_D A (TW G o ad nf wt np (va_up kK nf k) kW kF kS kL kE tm pr ga ho pa fr rg re) := hD
  refine lv_aload_n hx hb d_Mod_make_10 rfl (lv_at hl 0 rfl) ?_
  refine mm_get (v := .ref (ad 1)) hK hx hb hown lg_Mod_13 hP 0 rfl rfl d_Mod_make_11 ?_
  refine lv_aload_n hx hb d_Mod_make_14 rfl (lv_at hl 0 rfl) ?_
  refine mm_get (v := .int (nI nf)) hK hx hb hown lg_Mod_54 hP 0 rfl rfl d_Mod_make_15 ?_
  refine lv_iload_n hx hb d_Mod_make_18 rfl (lv_at hl 2 rfl) ?_
  refine mm_iastN (x := w) hK hx hb hP hD hS 2 rfl (by decide) (i := nf) (by omega) d_Mod_make_19 (fun H locs hP hD hS => ?_)
  have hP : va_P G.1 cls_all (TW G o ad nf wt np (va_up kK nf k) (va_up kW nf w) kF kS kL kE tm pr ga ho pa fr rg re) H := hP
  have hD : va_D A (TW G o ad nf wt np (va_up kK nf k) (va_up kW nf w) kF kS kL kE tm pr ga ho pa fr rg re) := hD
  refine lv_aload_n hx hb d_Mod_make_20 rfl (lv_at hl 0 rfl) ?_
  refine mm_get (v := .ref (ad 2)) hK hx hb hown lg_Mod_16 hP 0 rfl rfl d_Mod_make_21 ?_
  refine lv_aload_n hx hb d_Mod_make_24 rfl (lv_at hl 0 rfl) ?_
  refine mm_get (v := .int (nI nf)) hK hx hb hown lg_Mod_54 hP 0 rfl rfl d_Mod_make_25 ?_
  refine lv_iload_n hx hb d_Mod_make_28 rfl (lv_at hl 3 rfl) ?_
  refine mm_iastN (x := a) hK hx hb hP hD hS 3 rfl (by decide) (i := nf) (by omega) d_Mod_make_29 (fun H locs hP hD hS => ?_)
  have hP : va_P G.1 cls_all (TW G o ad nf wt np (va_up kK nf k) (va_up kW nf w) (va_up kF nf a) kS kL kE tm pr ga ho pa fr rg re) H := hP
  have hD : va_D A (TW G o ad nf wt np (va_up kK nf k) (va_up kW nf w) (va_up kF nf a) kS kL kE tm pr ga ho pa fr rg re) := hD
  refine lv_aload_n hx hb d_Mod_make_30 rfl (lv_at hl 0 rfl) ?_
  refine mm_get (v := .ref (ad 3)) hK hx hb hown lg_Mod_19 hP 0 rfl rfl d_Mod_make_31 ?_
  refine lv_aload_n hx hb d_Mod_make_34 rfl (lv_at hl 0 rfl) ?_
  refine mm_get (v := .int (nI nf)) hK hx hb hown lg_Mod_54 hP 0 rfl rfl d_Mod_make_35 ?_
  refine lv_iload hx hb d_Mod_make_38 (lv_at hl 4 rfl) ?_
  refine mm_iastN (x := b) hK hx hb hP hD hS 4 rfl (by decide) (i := nf) (by omega) d_Mod_make_40 (fun H locs hP hD hS => ?_)
  have hP : va_P G.1 cls_all (TW G o ad nf wt np (va_up kK nf k) (va_up kW nf w) (va_up kF nf a) (va_up kS nf b) kL kE tm pr ga ho pa fr rg re) H := hP
  have hD : va_D A (TW G o ad nf wt np (va_up kK nf k) (va_up kW nf w) (va_up kF nf a) (va_up kS nf b) kL kE tm pr ga ho pa fr rg re) := hD
  refine lv_aload_n hx hb d_Mod_make_41 rfl (lv_at hl 0 rfl) ?_
  refine mm_get (v := .ref (ad 4)) hK hx hb hown lg_Mod_22 hP 0 rfl rfl d_Mod_make_42 ?_
  refine lv_aload_n hx hb d_Mod_make_45 rfl (lv_at hl 0 rfl) ?_
  refine mm_get (v := .int (nI nf)) hK hx hb hown lg_Mod_54 hP 0 rfl rfl d_Mod_make_46 ?_
  refine lv_iconst hx hb d_Mod_make_49 ci_0 ?_
  refine mm_iastN (x := 0) hK hx hb hP hD hS 5 rfl (by decide) (i := nf) (by omega) d_Mod_make_50 (fun H locs hP hD hS => ?_)
  have hP : va_P G.1 cls_all (TW G o ad nf wt np (va_up kK nf k) (va_up kW nf w) (va_up kF nf a) (va_up kS nf b) (va_up kL nf 0) kE tm pr ga ho pa fr rg re) H := hP
  have hD : va_D A (TW G o ad nf wt np (va_up kK nf k) (va_up kW nf w) (va_up kF nf a) (va_up kS nf b) (va_up kL nf 0) kE tm pr ga ho pa fr rg re) := hD
  refine lv_aload_n hx hb d_Mod_make_51 rfl (lv_at hl 0 rfl) ?_
  refine mm_get (v := .ref (ad 5)) hK hx hb hown lg_Mod_25 hP 0 rfl rfl d_Mod_make_52 ?_
  refine lv_aload_n hx hb d_Mod_make_55 rfl (lv_at hl 0 rfl) ?_
  refine mm_get (v := .int (nI nf)) hK hx hb hown lg_Mod_54 hP 0 rfl rfl d_Mod_make_56 ?_
  refine lv_iconst hx hb d_Mod_make_59 ci_m1 ?_
  refine mm_ti (y := nI 0 - 1) (by decide) ?_
  refine mm_iastE (x := 0) hK hx hb hP hD hS 6 rfl (by decide) (i := nf) (by omega) d_Mod_make_60 (fun H locs hP hD hS => ?_)
  have hP : va_P G.1 cls_all (TW G o ad nf wt np (va_up kK nf k) (va_up kW nf w) (va_up kF nf a) (va_up kS nf b) (va_up kL nf 0) (va_up kE nf 0) tm pr ga ho pa fr rg re) H := hP
  have hD : va_D A (TW G o ad nf wt np (va_up kK nf k) (va_up kW nf w) (va_up kF nf a) (va_up kS nf b) (va_up kL nf 0) (va_up kE nf 0) tm pr ga ho pa fr rg re) := hD
  refine lv_aload_n hx hb d_Mod_make_61 rfl (lv_at hl 0 rfl) ?_
  refine lv_dup hx hb d_Mod_make_62 rfl ?_
  refine mm_get (v := .int (nI nf)) hK hx hb hown lg_Mod_54 hP 0 rfl rfl d_Mod_make_63 ?_
  refine lv_iconst hx hb d_Mod_make_66 ci_1 ?_
  refine lv_iadd hx hb d_Mod_make_67 ?_
  refine mm_ti (nI_add _ _) ?_
  refine mm_put (v := .int (nI (nf + 1))) hK hx hb hown lp_Mod_54 hP hD hS 0 rfl rfl rfl (Nat.le_of_ble_eq_true rfl) d_Mod_make_68 (fun H locs hP hD hS => ?_)
  have hP : va_P G.1 cls_all (TW G o ad (nf + 1) wt np (va_up kK nf k) (va_up kW nf w) (va_up kF nf a) (va_up kS nf b) (va_up kL nf 0) (va_up kE nf 0) tm pr ga ho pa fr rg re) H := hP
  have hD : va_D A (TW G o ad (nf + 1) wt np (va_up kK nf k) (va_up kW nf w) (va_up kF nf a) (va_up kS nf b) (va_up kL nf 0) (va_up kE nf 0) tm pr ga ho pa fr rg re) := hD
  refine lv_aload_n hx hb d_Mod_make_71 rfl (lv_at hl 0 rfl) ?_
  refine mm_get (v := .int (nI (nf + 1))) hK hx hb hown lg_Mod_54 hP 0 rfl rfl d_Mod_make_72 ?_
  refine lv_iconst hx hb d_Mod_make_75 ci_1 ?_
  refine lv_isub hx hb d_Mod_make_76 ?_
  refine mm_ti (y := nI nf) (nI_pred nf) ?_
  exact mm_irQ hx hb hr hk hS d_Mod_make_77 ⟨rfl, hP⟩
set_option maxHeartbeats 4000000 in
set_option maxRecDepth 100000 in
theorem c_Mod_makeTimed (l : Launch) (G : mm_G) (o : Nat) (ad : Nat → Nat) (nf : Nat) (wt : Bool) (np : Nat) (kK kW kF kS kL kE tm pr ga : Nat → Nat) (ho : Nat → Int64) (pa : Nat → Bool) (fr rg re : Nat → Nat) {A : Nat → Prop} (hD : va_D A (TW G o ad nf wt np kK kW kF kS kL kE tm pr ga ho pa fr rg re)) (k lo e0 a b : Nat) (hn : nf < 12) : Met l y_Mod_makeTimed [.code y_Mod_makeTimed b_Mod_makeTimed 7 (some .int)] { frames := 1, cells := 0, slots := 0, locals := 24 } (mm_Pre G [.ref o, .int (nI k), .int (nI lo), .int (nI e0 - 1), .int (nI a), .int (nI b)] (fun H => va_P G.1 cls_all (TW G o ad nf wt np kK kW kF kS kL kE tm pr ga ho pa fr rg re) H)) (mm_Qi (fun r H => r = nI nf ∧ va_P G.1 cls_all (TW G o ad (nf + 1) wt np (va_up kK nf k) (va_up kW nf 0) (va_up kF nf a) (va_up kS nf b) (va_up kL nf lo) (va_up kE nf e0) tm pr ga ho pa fr rg re) H) A) 0 0 A := by
  refine mm_of (by decide) (Nat.le_of_ble_eq_true rfl) ?_
  intro p e s m below meth c ls hx hb hr hk hml hown hnm hK hP hl
  have hl : lv_has ls 7 [(0, .ref o), (1, .int (nI k)), (2, .int (nI lo)), (3, .int (nI e0 - 1)), (4, .int (nI a)), (5, .int (nI b))] := hl
  have hS : va_S A s.heap s.heap [] := va_S.rf
  refine lv_aload_n hx hb d_Mod_makeTimed_0 rfl (lv_at hl 0 rfl) ?_
  refine lv_iload_n hx hb d_Mod_makeTimed_1 rfl (lv_at hl 1 rfl) ?_
  refine lv_iconst hx hb d_Mod_makeTimed_2 ci_0 ?_
  refine lv_iload hx hb d_Mod_makeTimed_3 (lv_at hl 4 rfl) ?_
  refine lv_iload hx hb d_Mod_makeTimed_5 (lv_at hl 5 rfl) ?_
  refine mm_qi (mm_runV hK ⟨hx, hb, hml, hown⟩ lk_Mod_63 (c_Mod_make l G o ad nf wt np kK kW kF kS kL kE tm pr ga ho pa fr rg re hD k 0 a b (by omega)) ⟨rfl, rfl, by decide, by decide⟩ (mm_rc hK hP 0 rfl rfl) hP rfl hl.1 rfl (Nat.le_of_ble_eq_true rfl) ⟨by decide, by decide⟩ d_Mod_makeTimed_7) hS (fun q h => h) (fun r7 H locs e7 hz1 hk1 hS => ?_)
  obtain ⟨rfl, hP⟩ := e7
  have hD : va_D A (TW G o ad (nf + 1) wt np (va_up kK nf k) (va_up kW nf 0) (va_up kF nf a) (va_up kS nf b) (va_up kL nf 0) (va_up kE nf 0) tm pr ga ho pa fr rg re) := mD hD rfl
  refine lv_istore (lv' := [(6, .int (nI nf)), (0, .ref o), (1, .int (nI k)), (2, .int (nI lo)), (3, .int (nI e0 - 1)), (4, .int (nI a)), (5, .int (nI b))]) hx hb d_Mod_makeTimed_10 hl (by decide) rfl (fun ls hl => ?_)
  refine lv_aload_n hx hb d_Mod_makeTimed_12 rfl (lv_at hl 1 rfl) ?_
  refine mm_get (v := .ref (ad 4)) hK hx hb hown lg_Mod_22 hP 0 rfl rfl d_Mod_makeTimed_13 ?_
  refine lv_iload hx hb d_Mod_makeTimed_16 (lv_at hl 0 rfl) ?_
  refine lv_iload_n hx hb d_Mod_makeTimed_18 rfl (lv_at hl 3 rfl) ?_
  refine mm_iastN (x := lo) hK hx hb hP hD hS 5 rfl (by decide) (i := nf) (by omega) d_Mod_makeTimed_19 (fun H locs hP hD hS => ?_)
  have hP : va_P G.1 cls_all (TW G o ad (nf + 1) wt np (va_up kK nf k) (va_up kW nf 0) (va_up kF nf a) (va_up kS nf b) (va_up (va_up kL nf 0) nf lo) (va_up kE nf 0) tm pr ga ho pa fr rg re) H := hP
  have hD : va_D A (TW G o ad (nf + 1) wt np (va_up kK nf k) (va_up kW nf 0) (va_up kF nf a) (va_up kS nf b) (va_up (va_up kL nf 0) nf lo) (va_up kE nf 0) tm pr ga ho pa fr rg re) := hD
  refine lv_aload_n hx hb d_Mod_makeTimed_20 rfl (lv_at hl 1 rfl) ?_
  refine mm_get (v := .ref (ad 5)) hK hx hb hown lg_Mod_25 hP 0 rfl rfl d_Mod_makeTimed_21 ?_
  refine lv_iload hx hb d_Mod_makeTimed_24 (lv_at hl 0 rfl) ?_
  refine lv_iload_n hx hb d_Mod_makeTimed_26 rfl (lv_at hl 4 rfl) ?_
  refine mm_iastE (x := e0) hK hx hb hP hD hS 6 rfl (by decide) (i := nf) (by omega) d_Mod_makeTimed_27 (fun H locs hP hD hS => ?_)
  have hP : va_P G.1 cls_all (TW G o ad (nf + 1) wt np (va_up kK nf k) (va_up kW nf 0) (va_up kF nf a) (va_up kS nf b) (va_up (va_up kL nf 0) nf lo) (va_up (va_up kE nf 0) nf e0) tm pr ga ho pa fr rg re) H := hP
  have hD : va_D A (TW G o ad (nf + 1) wt np (va_up kK nf k) (va_up kW nf 0) (va_up kF nf a) (va_up kS nf b) (va_up (va_up kL nf 0) nf lo) (va_up (va_up kE nf 0) nf e0) tm pr ga ho pa fr rg re) := hD
  refine lv_iload hx hb d_Mod_makeTimed_28 (lv_at hl 0 rfl) ?_
  exact mm_irQ hx hb hr hk hS d_Mod_makeTimed_30 ⟨rfl, by rw [bx_uu, bx_uu] at hP; exact hP⟩
set_option maxHeartbeats 4000000 in
set_option maxRecDepth 100000 in
theorem c_Mod_atom (l : Launch) (G : mm_G) (o : Nat) (ad : Nat → Nat) (nf : Nat) (wt : Bool) (np : Nat) (kK kW kF kS kL kE tm pr ga : Nat → Nat) (ho : Nat → Int64) (pa : Nat → Bool) (fr rg re : Nat → Nat) {A : Nat → Prop} (hD : va_D A (TW G o ad nf wt np kK kW kF kS kL kE tm pr ga ho pa fr rg re)) (a1 a2 a3 : Int32) (hn : nf ≤ 12) : Met l y_Mod_atom [.code y_Mod_atom b_Mod_atom 4 (some .int)] { frames := 1, cells := 0, slots := 0, locals := 24 } (mm_Pre G [.ref o, .int a1, .int a2, .int a3] (fun H => va_P G.1 cls_all (TW G o ad nf wt np kK kW kF kS kL kE tm pr ga ho pa fr rg re) H)) (mm_Qi (fun r H => (atP wt nf a1 a2 a3 → r = nI nf ∧ va_P G.1 cls_all (TW G o ad (nf + 1) wt np (va_up kK nf 0) (va_up kW nf (cN a1)) (va_up kF nf (cN a2)) (va_up kS nf (cN a3)) (va_up kL nf 0) (va_up kE nf 0) tm pr ga ho pa fr rg re) H) ∧ (¬ atP wt nf a1 a2 a3 → r = -1 ∧ va_P G.1 cls_all (TW G o ad nf wt np kK kW kF kS kL kE tm pr ga ho pa fr rg re) H)) A) 0 0 A := by
  refine mm_of (by decide) (Nat.le_of_ble_eq_true rfl) ?_
  intro p e s m below meth c ls hx hb hr hk hml hown hnm hK hP hl
  have hl : lv_has ls 4 [(0, .ref o), (1, .int a1), (2, .int a2), (3, .int a3)] := hl
  have hS : va_S A s.heap s.heap [] := va_S.rf
  refine lv_aload_n hx hb d_Mod_atom_0 rfl (lv_at hl 0 rfl) ?_
  refine mm_si (mm_runV hK ⟨hx, hb, hml, hown⟩ lk_Mod_67 (c_Mod_mayMake l G o ad nf wt np kK kW kF kS kL kE tm pr ga ho pa fr rg re hn) ⟨rfl, rfl, by decide, by decide⟩ (mm_rc hK hP 0 rfl rfl) hP rfl hl.1 rfl (Nat.le_of_ble_eq_true rfl) ⟨by decide, by decide⟩ d_Mod_atom_1) (fun r1 e1 => ?_)
  subst e1
  refine mm_ifeqB hx hb d_Mod_atom_4 (tgt := 41) (by decide) (fun c4 => ?_) (fun c4 => ?_)
  · refine lv_iconst hx hb d_Mod_atom_41 ci_m1 ?_
    exact mm_irQ hx hb hr hk hS d_Mod_atom_42 ⟨fun h => absurd h (fun h => by obtain ⟨h1, ⟨h2, h3⟩, h4, h5⟩ := h; first | omega | exact absurd (c4.symm.trans h1) (by decide) | exact absurd (c20.symm.trans h4) (by decide) | exact absurd (c27.symm.trans h5) (by decide)), fun _ => ⟨rfl, hP⟩⟩
  · refine lv_iload_n hx hb d_Mod_atom_7 rfl (lv_at hl 1 rfl) ?_
    refine lv_if_lt hx hb d_Mod_atom_8 (tgt := 41) (by decide) (fun c8 => ?_) (fun c8 => ?_)
    · rw [Int32.lt_iff_toInt_lt, Int32.toInt_zero] at c8
      refine lv_iconst hx hb d_Mod_atom_41 ci_m1 ?_
      exact mm_irQ hx hb hr hk hS d_Mod_atom_42 ⟨fun h => absurd h (fun h => by obtain ⟨h1, ⟨h2, h3⟩, h4, h5⟩ := h; first | omega | exact absurd (c4.symm.trans h1) (by decide) | exact absurd (c20.symm.trans h4) (by decide) | exact absurd (c27.symm.trans h5) (by decide)), fun _ => ⟨rfl, hP⟩⟩
    · rw [Int32.lt_iff_toInt_lt, Int32.toInt_zero] at c8
      refine lv_iload_n hx hb d_Mod_atom_11 rfl (lv_at hl 1 rfl) ?_
      refine lv_iconst hx hb d_Mod_atom_12 ci_2 ?_
      refine lv_icmp_gt hx hb d_Mod_atom_13 (tgt := 41) (by decide) (fun c13 => ?_) (fun c13 => ?_)
      · rw [Int32.lt_iff_toInt_lt, nI_toInt (n := 2) (by omega)] at c13
        refine lv_iconst hx hb d_Mod_atom_41 ci_m1 ?_
        exact mm_irQ hx hb hr hk hS d_Mod_atom_42 ⟨fun h => absurd h (fun h => by obtain ⟨h1, ⟨h2, h3⟩, h4, h5⟩ := h; first | omega | exact absurd (c4.symm.trans h1) (by decide) | exact absurd (c20.symm.trans h4) (by decide) | exact absurd (c27.symm.trans h5) (by decide)), fun _ => ⟨rfl, hP⟩⟩
      · rw [Int32.lt_iff_toInt_lt, nI_toInt (n := 2) (by omega)] at c13
        refine lv_iload_n hx hb d_Mod_atom_16 rfl (lv_at hl 2 rfl) ?_
        refine mm_si (mm_runS hK ⟨hx, hb, hml, hown⟩ lk_Mod_71 (c_Mod_isTerm l G a2) ⟨rfl, rfl, by decide, by decide⟩ trivial rfl hl.1 rfl (Nat.le_of_ble_eq_true rfl) ⟨by decide, by decide⟩ d_Mod_atom_17) (fun r17 e17 => ?_)
        subst e17
        refine mm_ifeqB hx hb d_Mod_atom_20 (tgt := 41) (by decide) (fun c20 => ?_) (fun c20 => ?_)
        · refine lv_iconst hx hb d_Mod_atom_41 ci_m1 ?_
          exact mm_irQ hx hb hr hk hS d_Mod_atom_42 ⟨fun h => absurd h (fun h => by obtain ⟨h1, ⟨h2, h3⟩, h4, h5⟩ := h; first | omega | exact absurd (c4.symm.trans h1) (by decide) | exact absurd (c20.symm.trans h4) (by decide) | exact absurd (c27.symm.trans h5) (by decide)), fun _ => ⟨rfl, hP⟩⟩
        · refine lv_iload_n hx hb d_Mod_atom_23 rfl (lv_at hl 3 rfl) ?_
          refine mm_si (mm_runS hK ⟨hx, hb, hml, hown⟩ lk_Mod_71 (c_Mod_isTerm l G a3) ⟨rfl, rfl, by decide, by decide⟩ trivial rfl hl.1 rfl (Nat.le_of_ble_eq_true rfl) ⟨by decide, by decide⟩ d_Mod_atom_24) (fun r24 e24 => ?_)
          subst e24
          refine mm_ifeqB hx hb d_Mod_atom_27 (tgt := 41) (by decide) (fun c27 => ?_) (fun c27 => ?_)
          · refine lv_iconst hx hb d_Mod_atom_41 ci_m1 ?_
            exact mm_irQ hx hb hr hk hS d_Mod_atom_42 ⟨fun h => absurd h (fun h => by obtain ⟨h1, ⟨h2, h3⟩, h4, h5⟩ := h; first | omega | exact absurd (c4.symm.trans h1) (by decide) | exact absurd (c20.symm.trans h4) (by decide) | exact absurd (c27.symm.trans h5) (by decide)), fun _ => ⟨rfl, hP⟩⟩
          · have hm := mk_lt c4
            obtain ⟨x1, rfl, y1⟩ := vn_of (v := a1) (by omega) (by omega)
            obtain ⟨x2, rfl, y2, -⟩ := tm_of c20
            obtain ⟨x3, rfl, y3, -⟩ := tm_of c27
            refine lv_aload_n hx hb d_Mod_atom_30 rfl (lv_at hl 0 rfl) ?_
            refine lv_iconst hx hb d_Mod_atom_31 ci_0 ?_
            refine lv_iload_n hx hb d_Mod_atom_32 rfl (lv_at hl 1 rfl) ?_
            refine lv_iload_n hx hb d_Mod_atom_33 rfl (lv_at hl 2 rfl) ?_
            refine lv_iload_n hx hb d_Mod_atom_34 rfl (lv_at hl 3 rfl) ?_
            refine mm_qi (mm_runV hK ⟨hx, hb, hml, hown⟩ lk_Mod_63 (c_Mod_make l G o ad nf wt np kK kW kF kS kL kE tm pr ga ho pa fr rg re hD 0 x1 x2 x3 (by omega)) ⟨rfl, rfl, by decide, by decide⟩ (mm_rc hK hP 0 rfl rfl) hP rfl hl.1 rfl (Nat.le_of_ble_eq_true rfl) ⟨by decide, by decide⟩ d_Mod_atom_35) hS (fun q h => h) (fun r35 H locs e35 hz1 hk1 hS => ?_)
            obtain ⟨rfl, hP⟩ := e35
            have hD : va_D A (TW G o ad (nf + 1) wt np (va_up kK nf 0) (va_up kW nf x1) (va_up kF nf x2) (va_up kS nf x3) (va_up kL nf 0) (va_up kE nf 0) tm pr ga ho pa fr rg re) := mD hD rfl
            refine lv_goto hx hb d_Mod_atom_38 (tgt := 42) (by decide) ?_
            exact mm_irQ hx hb hr hk hS d_Mod_atom_42 ⟨fun _ => ⟨rfl, by rw [cN_nI (by omega), cN_nI (by omega), cN_nI (by omega)]; exact hP⟩, fun h => absurd ⟨c4, ⟨by omega, by omega⟩, c20, c27⟩ h⟩
set_option maxHeartbeats 4000000 in
set_option maxRecDepth 100000 in
theorem c_Mod_compare (l : Launch) (G : mm_G) (o : Nat) (ad : Nat → Nat) (nf : Nat) (wt : Bool) (np : Nat) (kK kW kF kS kL kE tm pr ga : Nat → Nat) (ho : Nat → Int64) (pa : Nat → Bool) (fr rg re : Nat → Nat) {A : Nat → Prop} (hD : va_D A (TW G o ad nf wt np kK kW kF kS kL kE tm pr ga ho pa fr rg re)) (ls0 : Bool) (a2 a3 : Int32) (hn : nf ≤ 12) : Met l y_Mod_compare [.code y_Mod_compare b_Mod_compare 4 (some .int)] { frames := 1, cells := 0, slots := 0, locals := 24 } (mm_Pre G [.ref o, .int (bI ls0), .int a2, .int a3] (fun H => va_P G.1 cls_all (TW G o ad nf wt np kK kW kF kS kL kE tm pr ga ho pa fr rg re) H)) (mm_Qi (fun r H => (cmP wt nf a2 a3 → r = nI nf ∧ va_P G.1 cls_all (TW G o ad (nf + 1) wt np (va_up kK nf (if ls0 then 2 else 1)) (va_up kW nf 0) (va_up kF nf (cN a2)) (va_up kS nf (cN a3)) (va_up kL nf 0) (va_up kE nf 0) tm pr ga ho pa fr rg re) H) ∧ (¬ cmP wt nf a2 a3 → r = -1 ∧ va_P G.1 cls_all (TW G o ad nf wt np kK kW kF kS kL kE tm pr ga ho pa fr rg re) H)) A) 0 0 A := by
  refine mm_of (by decide) (Nat.le_of_ble_eq_true rfl) ?_
  intro p e s m below meth c ls hx hb hr hk hml hown hnm hK hP hl
  have hl : lv_has ls 4 [(0, .ref o), (1, .int (bI ls0)), (2, .int a2), (3, .int a3)] := hl
  have hS : va_S A s.heap s.heap [] := va_S.rf
  refine lv_aload_n hx hb d_Mod_compare_0 rfl (lv_at hl 0 rfl) ?_
  refine mm_si (mm_runV hK ⟨hx, hb, hml, hown⟩ lk_Mod_67 (c_Mod_mayMake l G o ad nf wt np kK kW kF kS kL kE tm pr ga ho pa fr rg re hn) ⟨rfl, rfl, by decide, by decide⟩ (mm_rc hK hP 0 rfl rfl) hP rfl hl.1 rfl (Nat.le_of_ble_eq_true rfl) ⟨by decide, by decide⟩ d_Mod_compare_1) (fun r1 e1 => ?_)
  subst e1
  refine mm_ifeqB hx hb d_Mod_compare_4 (tgt := 40) (by decide) (fun c4 => ?_) (fun c4 => ?_)
  · refine lv_iconst hx hb d_Mod_compare_40 ci_m1 ?_
    exact mm_irQ hx hb hr hk hS d_Mod_compare_41 ⟨fun h => absurd h (fun h => by obtain ⟨h1, h4, h5⟩ := h; first | omega | exact absurd (c4.symm.trans h1) (by decide) | exact absurd (c11.symm.trans h4) (by decide) | exact absurd (c18.symm.trans h5) (by decide)), fun _ => ⟨rfl, hP⟩⟩
  · refine lv_iload_n hx hb d_Mod_compare_7 rfl (lv_at hl 2 rfl) ?_
    refine mm_si (mm_runS hK ⟨hx, hb, hml, hown⟩ lk_Mod_71 (c_Mod_isTerm l G a2) ⟨rfl, rfl, by decide, by decide⟩ trivial rfl hl.1 rfl (Nat.le_of_ble_eq_true rfl) ⟨by decide, by decide⟩ d_Mod_compare_8) (fun r8 e8 => ?_)
    subst e8
    refine mm_ifeqB hx hb d_Mod_compare_11 (tgt := 40) (by decide) (fun c11 => ?_) (fun c11 => ?_)
    · refine lv_iconst hx hb d_Mod_compare_40 ci_m1 ?_
      exact mm_irQ hx hb hr hk hS d_Mod_compare_41 ⟨fun h => absurd h (fun h => by obtain ⟨h1, h4, h5⟩ := h; first | omega | exact absurd (c4.symm.trans h1) (by decide) | exact absurd (c11.symm.trans h4) (by decide) | exact absurd (c18.symm.trans h5) (by decide)), fun _ => ⟨rfl, hP⟩⟩
    · refine lv_iload_n hx hb d_Mod_compare_14 rfl (lv_at hl 3 rfl) ?_
      refine mm_si (mm_runS hK ⟨hx, hb, hml, hown⟩ lk_Mod_71 (c_Mod_isTerm l G a3) ⟨rfl, rfl, by decide, by decide⟩ trivial rfl hl.1 rfl (Nat.le_of_ble_eq_true rfl) ⟨by decide, by decide⟩ d_Mod_compare_15) (fun r15 e15 => ?_)
      subst e15
      refine mm_ifeqB hx hb d_Mod_compare_18 (tgt := 40) (by decide) (fun c18 => ?_) (fun c18 => ?_)
      · refine lv_iconst hx hb d_Mod_compare_40 ci_m1 ?_
        exact mm_irQ hx hb hr hk hS d_Mod_compare_41 ⟨fun h => absurd h (fun h => by obtain ⟨h1, h4, h5⟩ := h; first | omega | exact absurd (c4.symm.trans h1) (by decide) | exact absurd (c11.symm.trans h4) (by decide) | exact absurd (c18.symm.trans h5) (by decide)), fun _ => ⟨rfl, hP⟩⟩
      · have hm := mk_lt c4
        obtain ⟨x2, rfl, y2, -⟩ := tm_of c11
        obtain ⟨x3, rfl, y3, -⟩ := tm_of c18
        refine lv_aload_n hx hb d_Mod_compare_21 rfl (lv_at hl 0 rfl) ?_
        refine lv_iload_n hx hb d_Mod_compare_22 rfl (lv_at hl 1 rfl) ?_
        refine mm_ifeqB hx hb d_Mod_compare_23 (tgt := 30) (by decide) (fun c23 => ?_) (fun c23 => ?_)
        · refine lv_iconst hx hb d_Mod_compare_30 ci_1 ?_
          refine lv_iconst hx hb d_Mod_compare_31 ci_0 ?_
          refine lv_iload_n hx hb d_Mod_compare_32 rfl (lv_at hl 2 rfl) ?_
          refine lv_iload_n hx hb d_Mod_compare_33 rfl (lv_at hl 3 rfl) ?_
          refine mm_qi (mm_runV hK ⟨hx, hb, hml, hown⟩ lk_Mod_63 (c_Mod_make l G o ad nf wt np kK kW kF kS kL kE tm pr ga ho pa fr rg re hD 1 0 x2 x3 (by omega)) ⟨rfl, rfl, by decide, by decide⟩ (mm_rc hK hP 0 rfl rfl) hP rfl hl.1 rfl (Nat.le_of_ble_eq_true rfl) ⟨by decide, by decide⟩ d_Mod_compare_34) hS (fun q h => h) (fun r34 H locs e34 hz1 hk1 hS => ?_)
          obtain ⟨rfl, hP⟩ := e34
          have hD : va_D A (TW G o ad (nf + 1) wt np (va_up kK nf 1) (va_up kW nf 0) (va_up kF nf x2) (va_up kS nf x3) (va_up kL nf 0) (va_up kE nf 0) tm pr ga ho pa fr rg re) := mD hD rfl
          refine lv_goto hx hb d_Mod_compare_37 (tgt := 41) (by decide) ?_
          exact mm_irQ hx hb hr hk hS d_Mod_compare_41 ⟨fun _ => ⟨rfl, by rw [cN_nI (by omega), cN_nI (by omega)]; rw [c23]; exact hP⟩, fun h => absurd ⟨c4, c11, c18⟩ h⟩
        · refine lv_iconst hx hb d_Mod_compare_26 ci_2 ?_
          refine lv_goto hx hb d_Mod_compare_27 (tgt := 31) (by decide) ?_
          refine lv_iconst hx hb d_Mod_compare_31 ci_0 ?_
          refine lv_iload_n hx hb d_Mod_compare_32 rfl (lv_at hl 2 rfl) ?_
          refine lv_iload_n hx hb d_Mod_compare_33 rfl (lv_at hl 3 rfl) ?_
          refine mm_qi (mm_runV hK ⟨hx, hb, hml, hown⟩ lk_Mod_63 (c_Mod_make l G o ad nf wt np kK kW kF kS kL kE tm pr ga ho pa fr rg re hD 2 0 x2 x3 (by omega)) ⟨rfl, rfl, by decide, by decide⟩ (mm_rc hK hP 0 rfl rfl) hP rfl hl.1 rfl (Nat.le_of_ble_eq_true rfl) ⟨by decide, by decide⟩ d_Mod_compare_34) hS (fun q h => h) (fun r34 H locs e34 hz1 hk1 hS => ?_)
          obtain ⟨rfl, hP⟩ := e34
          have hD : va_D A (TW G o ad (nf + 1) wt np (va_up kK nf 2) (va_up kW nf 0) (va_up kF nf x2) (va_up kS nf x3) (va_up kL nf 0) (va_up kE nf 0) tm pr ga ho pa fr rg re) := mD hD rfl
          refine lv_goto hx hb d_Mod_compare_37 (tgt := 41) (by decide) ?_
          exact mm_irQ hx hb hr hk hS d_Mod_compare_41 ⟨fun _ => ⟨rfl, by rw [cN_nI (by omega), cN_nI (by omega)]; rw [c23]; exact hP⟩, fun h => absurd ⟨c4, c11, c18⟩ h⟩
set_option maxHeartbeats 4000000 in
set_option maxRecDepth 100000 in
theorem c_Mod_not (l : Launch) (G : mm_G) (o : Nat) (ad : Nat → Nat) (nf : Nat) (wt : Bool) (np : Nat) (kK kW kF kS kL kE tm pr ga : Nat → Nat) (ho : Nat → Int64) (pa : Nat → Bool) (fr rg re : Nat → Nat) {A : Nat → Prop} (hD : va_D A (TW G o ad nf wt np kK kW kF kS kL kE tm pr ga ho pa fr rg re)) (a1 : Int32) (hn : nf ≤ 12) : Met l y_Mod_not [.code y_Mod_not b_Mod_not 2 (some .int)] { frames := 1, cells := 0, slots := 0, locals := 24 } (mm_Pre G [.ref o, .int a1] (fun H => va_P G.1 cls_all (TW G o ad nf wt np kK kW kF kS kL kE tm pr ga ho pa fr rg re) H)) (mm_Qi (fun r H => (noP wt nf a1 → r = nI nf ∧ va_P G.1 cls_all (TW G o ad (nf + 1) wt np (va_up kK nf 3) (va_up kW nf 0) (va_up kF nf (cN a1)) (va_up kS nf (cN a1)) (va_up kL nf 0) (va_up kE nf 0) tm pr ga ho pa fr rg re) H) ∧ (¬ noP wt nf a1 → r = -1 ∧ va_P G.1 cls_all (TW G o ad nf wt np kK kW kF kS kL kE tm pr ga ho pa fr rg re) H)) A) 0 0 A := by
  refine mm_of (by decide) (Nat.le_of_ble_eq_true rfl) ?_
  intro p e s m below meth c ls hx hb hr hk hml hown hnm hK hP hl
  have hl : lv_has ls 2 [(0, .ref o), (1, .int a1)] := hl
  have hS : va_S A s.heap s.heap [] := va_S.rf
  refine lv_aload_n hx hb d_Mod_not_0 rfl (lv_at hl 0 rfl) ?_
  refine mm_si (mm_runV hK ⟨hx, hb, hml, hown⟩ lk_Mod_67 (c_Mod_mayMake l G o ad nf wt np kK kW kF kS kL kE tm pr ga ho pa fr rg re hn) ⟨rfl, rfl, by decide, by decide⟩ (mm_rc hK hP 0 rfl rfl) hP rfl hl.1 rfl (Nat.le_of_ble_eq_true rfl) ⟨by decide, by decide⟩ d_Mod_not_1) (fun r1 e1 => ?_)
  subst e1
  refine mm_ifeqB hx hb d_Mod_not_4 (tgt := 26) (by decide) (fun c4 => ?_) (fun c4 => ?_)
  · refine lv_iconst hx hb d_Mod_not_26 ci_m1 ?_
    exact mm_irQ hx hb hr hk hS d_Mod_not_27 ⟨fun h => absurd h (fun h => by obtain ⟨h1, h4⟩ := h; first | omega | exact absurd (c4.symm.trans h1) (by decide) | exact absurd (c12.symm.trans h4) (by decide)), fun _ => ⟨rfl, hP⟩⟩
  · refine lv_aload_n hx hb d_Mod_not_7 rfl (lv_at hl 0 rfl) ?_
    refine lv_iload_n hx hb d_Mod_not_8 rfl (lv_at hl 1 rfl) ?_
    refine mm_si (mm_runV hK ⟨hx, hb, hml, hown⟩ lk_Mod_75 (c_Mod_isFormula l G o ad nf wt np kK kW kF kS kL kE tm pr ga ho pa fr rg re a1 hn) ⟨rfl, rfl, by decide, by decide⟩ (mm_rc hK hP 0 rfl rfl) hP rfl hl.1 rfl (Nat.le_of_ble_eq_true rfl) ⟨by decide, by decide⟩ d_Mod_not_9) (fun r9 e9 => ?_)
    subst e9
    refine mm_ifeqB hx hb d_Mod_not_12 (tgt := 26) (by decide) (fun c12 => ?_) (fun c12 => ?_)
    · refine lv_iconst hx hb d_Mod_not_26 ci_m1 ?_
      exact mm_irQ hx hb hr hk hS d_Mod_not_27 ⟨fun h => absurd h (fun h => by obtain ⟨h1, h4⟩ := h; first | omega | exact absurd (c4.symm.trans h1) (by decide) | exact absurd (c12.symm.trans h4) (by decide)), fun _ => ⟨rfl, hP⟩⟩
    · have hm := mk_lt c4
      obtain ⟨x1, rfl, y1⟩ := fm_of c12
      refine lv_aload_n hx hb d_Mod_not_15 rfl (lv_at hl 0 rfl) ?_
      refine lv_iconst hx hb d_Mod_not_16 ci_3 ?_
      refine lv_iconst hx hb d_Mod_not_17 ci_0 ?_
      refine lv_iload_n hx hb d_Mod_not_18 rfl (lv_at hl 1 rfl) ?_
      refine lv_iload_n hx hb d_Mod_not_19 rfl (lv_at hl 1 rfl) ?_
      refine mm_qi (mm_runV hK ⟨hx, hb, hml, hown⟩ lk_Mod_63 (c_Mod_make l G o ad nf wt np kK kW kF kS kL kE tm pr ga ho pa fr rg re hD 3 0 x1 x1 (by omega)) ⟨rfl, rfl, by decide, by decide⟩ (mm_rc hK hP 0 rfl rfl) hP rfl hl.1 rfl (Nat.le_of_ble_eq_true rfl) ⟨by decide, by decide⟩ d_Mod_not_20) hS (fun q h => h) (fun r20 H locs e20 hz1 hk1 hS => ?_)
      obtain ⟨rfl, hP⟩ := e20
      have hD : va_D A (TW G o ad (nf + 1) wt np (va_up kK nf 3) (va_up kW nf 0) (va_up kF nf x1) (va_up kS nf x1) (va_up kL nf 0) (va_up kE nf 0) tm pr ga ho pa fr rg re) := mD hD rfl
      refine lv_goto hx hb d_Mod_not_23 (tgt := 27) (by decide) ?_
      exact mm_irQ hx hb hr hk hS d_Mod_not_27 ⟨fun _ => ⟨rfl, by rw [cN_nI (by omega)]; exact hP⟩, fun h => absurd ⟨c4, c12⟩ h⟩
set_option maxHeartbeats 4000000 in
set_option maxRecDepth 100000 in
theorem c_Mod_join (l : Launch) (G : mm_G) (o : Nat) (ad : Nat → Nat) (nf : Nat) (wt : Bool) (np : Nat) (kK kW kF kS kL kE tm pr ga : Nat → Nat) (ho : Nat → Int64) (pa : Nat → Bool) (fr rg re : Nat → Nat) {A : Nat → Prop} (hD : va_D A (TW G o ad nf wt np kK kW kF kS kL kE tm pr ga ho pa fr rg re)) (an : Bool) (a2 a3 : Int32) (hn : nf ≤ 12) : Met l y_Mod_join [.code y_Mod_join b_Mod_join 4 (some .int)] { frames := 1, cells := 0, slots := 0, locals := 24 } (mm_Pre G [.ref o, .int (bI an), .int a2, .int a3] (fun H => va_P G.1 cls_all (TW G o ad nf wt np kK kW kF kS kL kE tm pr ga ho pa fr rg re) H)) (mm_Qi (fun r H => (joP wt nf a2 a3 → r = nI nf ∧ va_P G.1 cls_all (TW G o ad (nf + 1) wt np (va_up kK nf (if an then 4 else 5)) (va_up kW nf 0) (va_up kF nf (cN a2)) (va_up kS nf (cN a3)) (va_up kL nf 0) (va_up kE nf 0) tm pr ga ho pa fr rg re) H) ∧ (¬ joP wt nf a2 a3 → r = -1 ∧ va_P G.1 cls_all (TW G o ad nf wt np kK kW kF kS kL kE tm pr ga ho pa fr rg re) H)) A) 0 0 A := by
  refine mm_of (by decide) (Nat.le_of_ble_eq_true rfl) ?_
  intro p e s m below meth c ls hx hb hr hk hml hown hnm hK hP hl
  have hl : lv_has ls 4 [(0, .ref o), (1, .int (bI an)), (2, .int a2), (3, .int a3)] := hl
  have hS : va_S A s.heap s.heap [] := va_S.rf
  refine lv_aload_n hx hb d_Mod_join_0 rfl (lv_at hl 0 rfl) ?_
  refine mm_si (mm_runV hK ⟨hx, hb, hml, hown⟩ lk_Mod_67 (c_Mod_mayMake l G o ad nf wt np kK kW kF kS kL kE tm pr ga ho pa fr rg re hn) ⟨rfl, rfl, by decide, by decide⟩ (mm_rc hK hP 0 rfl rfl) hP rfl hl.1 rfl (Nat.le_of_ble_eq_true rfl) ⟨by decide, by decide⟩ d_Mod_join_1) (fun r1 e1 => ?_)
  subst e1
  refine mm_ifeqB hx hb d_Mod_join_4 (tgt := 42) (by decide) (fun c4 => ?_) (fun c4 => ?_)
  · refine lv_iconst hx hb d_Mod_join_42 ci_m1 ?_
    exact mm_irQ hx hb hr hk hS d_Mod_join_43 ⟨fun h => absurd h (fun h => by obtain ⟨h1, h4, h5⟩ := h; first | omega | exact absurd (c4.symm.trans h1) (by decide) | exact absurd (c12.symm.trans h4) (by decide) | exact absurd (c20.symm.trans h5) (by decide)), fun _ => ⟨rfl, hP⟩⟩
  · refine lv_aload_n hx hb d_Mod_join_7 rfl (lv_at hl 0 rfl) ?_
    refine lv_iload_n hx hb d_Mod_join_8 rfl (lv_at hl 2 rfl) ?_
    refine mm_si (mm_runV hK ⟨hx, hb, hml, hown⟩ lk_Mod_75 (c_Mod_isFormula l G o ad nf wt np kK kW kF kS kL kE tm pr ga ho pa fr rg re a2 hn) ⟨rfl, rfl, by decide, by decide⟩ (mm_rc hK hP 0 rfl rfl) hP rfl hl.1 rfl (Nat.le_of_ble_eq_true rfl) ⟨by decide, by decide⟩ d_Mod_join_9) (fun r9 e9 => ?_)
    subst e9
    refine mm_ifeqB hx hb d_Mod_join_12 (tgt := 42) (by decide) (fun c12 => ?_) (fun c12 => ?_)
    · refine lv_iconst hx hb d_Mod_join_42 ci_m1 ?_
      exact mm_irQ hx hb hr hk hS d_Mod_join_43 ⟨fun h => absurd h (fun h => by obtain ⟨h1, h4, h5⟩ := h; first | omega | exact absurd (c4.symm.trans h1) (by decide) | exact absurd (c12.symm.trans h4) (by decide) | exact absurd (c20.symm.trans h5) (by decide)), fun _ => ⟨rfl, hP⟩⟩
    · refine lv_aload_n hx hb d_Mod_join_15 rfl (lv_at hl 0 rfl) ?_
      refine lv_iload_n hx hb d_Mod_join_16 rfl (lv_at hl 3 rfl) ?_
      refine mm_si (mm_runV hK ⟨hx, hb, hml, hown⟩ lk_Mod_75 (c_Mod_isFormula l G o ad nf wt np kK kW kF kS kL kE tm pr ga ho pa fr rg re a3 hn) ⟨rfl, rfl, by decide, by decide⟩ (mm_rc hK hP 0 rfl rfl) hP rfl hl.1 rfl (Nat.le_of_ble_eq_true rfl) ⟨by decide, by decide⟩ d_Mod_join_17) (fun r17 e17 => ?_)
      subst e17
      refine mm_ifeqB hx hb d_Mod_join_20 (tgt := 42) (by decide) (fun c20 => ?_) (fun c20 => ?_)
      · refine lv_iconst hx hb d_Mod_join_42 ci_m1 ?_
        exact mm_irQ hx hb hr hk hS d_Mod_join_43 ⟨fun h => absurd h (fun h => by obtain ⟨h1, h4, h5⟩ := h; first | omega | exact absurd (c4.symm.trans h1) (by decide) | exact absurd (c12.symm.trans h4) (by decide) | exact absurd (c20.symm.trans h5) (by decide)), fun _ => ⟨rfl, hP⟩⟩
      · have hm := mk_lt c4
        obtain ⟨x2, rfl, y2⟩ := fm_of c12
        obtain ⟨x3, rfl, y3⟩ := fm_of c20
        refine lv_aload_n hx hb d_Mod_join_23 rfl (lv_at hl 0 rfl) ?_
        refine lv_iload_n hx hb d_Mod_join_24 rfl (lv_at hl 1 rfl) ?_
        refine mm_ifeqB hx hb d_Mod_join_25 (tgt := 32) (by decide) (fun c25 => ?_) (fun c25 => ?_)
        · refine lv_iconst hx hb d_Mod_join_32 ci_5 ?_
          refine lv_iconst hx hb d_Mod_join_33 ci_0 ?_
          refine lv_iload_n hx hb d_Mod_join_34 rfl (lv_at hl 2 rfl) ?_
          refine lv_iload_n hx hb d_Mod_join_35 rfl (lv_at hl 3 rfl) ?_
          refine mm_qi (mm_runV hK ⟨hx, hb, hml, hown⟩ lk_Mod_63 (c_Mod_make l G o ad nf wt np kK kW kF kS kL kE tm pr ga ho pa fr rg re hD 5 0 x2 x3 (by omega)) ⟨rfl, rfl, by decide, by decide⟩ (mm_rc hK hP 0 rfl rfl) hP rfl hl.1 rfl (Nat.le_of_ble_eq_true rfl) ⟨by decide, by decide⟩ d_Mod_join_36) hS (fun q h => h) (fun r36 H locs e36 hz1 hk1 hS => ?_)
          obtain ⟨rfl, hP⟩ := e36
          have hD : va_D A (TW G o ad (nf + 1) wt np (va_up kK nf 5) (va_up kW nf 0) (va_up kF nf x2) (va_up kS nf x3) (va_up kL nf 0) (va_up kE nf 0) tm pr ga ho pa fr rg re) := mD hD rfl
          refine lv_goto hx hb d_Mod_join_39 (tgt := 43) (by decide) ?_
          exact mm_irQ hx hb hr hk hS d_Mod_join_43 ⟨fun _ => ⟨rfl, by rw [cN_nI (by omega), cN_nI (by omega)]; rw [c25]; exact hP⟩, fun h => absurd ⟨c4, c12, c20⟩ h⟩
        · refine lv_iconst hx hb d_Mod_join_28 ci_4 ?_
          refine lv_goto hx hb d_Mod_join_29 (tgt := 33) (by decide) ?_
          refine lv_iconst hx hb d_Mod_join_33 ci_0 ?_
          refine lv_iload_n hx hb d_Mod_join_34 rfl (lv_at hl 2 rfl) ?_
          refine lv_iload_n hx hb d_Mod_join_35 rfl (lv_at hl 3 rfl) ?_
          refine mm_qi (mm_runV hK ⟨hx, hb, hml, hown⟩ lk_Mod_63 (c_Mod_make l G o ad nf wt np kK kW kF kS kL kE tm pr ga ho pa fr rg re hD 4 0 x2 x3 (by omega)) ⟨rfl, rfl, by decide, by decide⟩ (mm_rc hK hP 0 rfl rfl) hP rfl hl.1 rfl (Nat.le_of_ble_eq_true rfl) ⟨by decide, by decide⟩ d_Mod_join_36) hS (fun q h => h) (fun r36 H locs e36 hz1 hk1 hS => ?_)
          obtain ⟨rfl, hP⟩ := e36
          have hD : va_D A (TW G o ad (nf + 1) wt np (va_up kK nf 4) (va_up kW nf 0) (va_up kF nf x2) (va_up kS nf x3) (va_up kL nf 0) (va_up kE nf 0) tm pr ga ho pa fr rg re) := mD hD rfl
          refine lv_goto hx hb d_Mod_join_39 (tgt := 43) (by decide) ?_
          exact mm_irQ hx hb hr hk hS d_Mod_join_43 ⟨fun _ => ⟨rfl, by rw [cN_nI (by omega), cN_nI (by omega)]; rw [c25]; exact hP⟩, fun h => absurd ⟨c4, c12, c20⟩ h⟩
set_option maxHeartbeats 4000000 in
set_option maxRecDepth 100000 in
theorem c_Mod_exists (l : Launch) (G : mm_G) (o : Nat) (ad : Nat → Nat) (nf : Nat) (wt : Bool) (np : Nat) (kK kW kF kS kL kE tm pr ga : Nat → Nat) (ho : Nat → Int64) (pa : Nat → Bool) (fr rg re : Nat → Nat) {A : Nat → Prop} (hD : va_D A (TW G o ad nf wt np kK kW kF kS kL kE tm pr ga ho pa fr rg re)) (a1 a2 : Int32) (hn : nf ≤ 12) : Met l y_Mod_exists [.code y_Mod_exists b_Mod_exists 3 (some .int)] { frames := 1, cells := 0, slots := 0, locals := 24 } (mm_Pre G [.ref o, .int a1, .int a2] (fun H => va_P G.1 cls_all (TW G o ad nf wt np kK kW kF kS kL kE tm pr ga ho pa fr rg re) H)) (mm_Qi (fun r H => (exP wt nf a1 a2 → r = nI nf ∧ va_P G.1 cls_all (TW G o ad (nf + 1) wt np (va_up kK nf 6) (va_up kW nf (cN a1)) (va_up kF nf (cN a2)) (va_up kS nf (cN a2)) (va_up kL nf 0) (va_up kE nf 0) tm pr ga ho pa fr rg re) H) ∧ (¬ exP wt nf a1 a2 → r = -1 ∧ va_P G.1 cls_all (TW G o ad nf wt np kK kW kF kS kL kE tm pr ga ho pa fr rg re) H)) A) 0 0 A := by
  refine mm_of (by decide) (Nat.le_of_ble_eq_true rfl) ?_
  intro p e s m below meth c ls hx hb hr hk hml hown hnm hK hP hl
  have hl : lv_has ls 3 [(0, .ref o), (1, .int a1), (2, .int a2)] := hl
  have hS : va_S A s.heap s.heap [] := va_S.rf
  refine lv_aload_n hx hb d_Mod_exists_0 rfl (lv_at hl 0 rfl) ?_
  refine mm_si (mm_runV hK ⟨hx, hb, hml, hown⟩ lk_Mod_67 (c_Mod_mayMake l G o ad nf wt np kK kW kF kS kL kE tm pr ga ho pa fr rg re hn) ⟨rfl, rfl, by decide, by decide⟩ (mm_rc hK hP 0 rfl rfl) hP rfl hl.1 rfl (Nat.le_of_ble_eq_true rfl) ⟨by decide, by decide⟩ d_Mod_exists_1) (fun r1 e1 => ?_)
  subst e1
  refine mm_ifeqB hx hb d_Mod_exists_4 (tgt := 36) (by decide) (fun c4 => ?_) (fun c4 => ?_)
  · refine lv_iconst hx hb d_Mod_exists_36 ci_m1 ?_
    exact mm_irQ hx hb hr hk hS d_Mod_exists_37 ⟨fun h => absurd h (fun h => by obtain ⟨h1, ⟨h2, h3⟩, h4⟩ := h; first | omega | exact absurd (c4.symm.trans h1) (by decide) | exact absurd (c21.symm.trans h4) (by decide)), fun _ => ⟨rfl, hP⟩⟩
  · refine lv_iload_n hx hb d_Mod_exists_7 rfl (lv_at hl 1 rfl) ?_
    refine lv_if_lt hx hb d_Mod_exists_8 (tgt := 36) (by decide) (fun c8 => ?_) (fun c8 => ?_)
    · rw [Int32.lt_iff_toInt_lt, Int32.toInt_zero] at c8
      refine lv_iconst hx hb d_Mod_exists_36 ci_m1 ?_
      exact mm_irQ hx hb hr hk hS d_Mod_exists_37 ⟨fun h => absurd h (fun h => by obtain ⟨h1, ⟨h2, h3⟩, h4⟩ := h; first | omega | exact absurd (c4.symm.trans h1) (by decide) | exact absurd (c21.symm.trans h4) (by decide)), fun _ => ⟨rfl, hP⟩⟩
    · rw [Int32.lt_iff_toInt_lt, Int32.toInt_zero] at c8
      refine lv_iload_n hx hb d_Mod_exists_11 rfl (lv_at hl 1 rfl) ?_
      refine lv_iconst hx hb d_Mod_exists_12 ci_2 ?_
      refine lv_icmp_gt hx hb d_Mod_exists_13 (tgt := 36) (by decide) (fun c13 => ?_) (fun c13 => ?_)
      · rw [Int32.lt_iff_toInt_lt, nI_toInt (n := 2) (by omega)] at c13
        refine lv_iconst hx hb d_Mod_exists_36 ci_m1 ?_
        exact mm_irQ hx hb hr hk hS d_Mod_exists_37 ⟨fun h => absurd h (fun h => by obtain ⟨h1, ⟨h2, h3⟩, h4⟩ := h; first | omega | exact absurd (c4.symm.trans h1) (by decide) | exact absurd (c21.symm.trans h4) (by decide)), fun _ => ⟨rfl, hP⟩⟩
      · rw [Int32.lt_iff_toInt_lt, nI_toInt (n := 2) (by omega)] at c13
        refine lv_aload_n hx hb d_Mod_exists_16 rfl (lv_at hl 0 rfl) ?_
        refine lv_iload_n hx hb d_Mod_exists_17 rfl (lv_at hl 2 rfl) ?_
        refine mm_si (mm_runV hK ⟨hx, hb, hml, hown⟩ lk_Mod_75 (c_Mod_isFormula l G o ad nf wt np kK kW kF kS kL kE tm pr ga ho pa fr rg re a2 hn) ⟨rfl, rfl, by decide, by decide⟩ (mm_rc hK hP 0 rfl rfl) hP rfl hl.1 rfl (Nat.le_of_ble_eq_true rfl) ⟨by decide, by decide⟩ d_Mod_exists_18) (fun r18 e18 => ?_)
        subst e18
        refine mm_ifeqB hx hb d_Mod_exists_21 (tgt := 36) (by decide) (fun c21 => ?_) (fun c21 => ?_)
        · refine lv_iconst hx hb d_Mod_exists_36 ci_m1 ?_
          exact mm_irQ hx hb hr hk hS d_Mod_exists_37 ⟨fun h => absurd h (fun h => by obtain ⟨h1, ⟨h2, h3⟩, h4⟩ := h; first | omega | exact absurd (c4.symm.trans h1) (by decide) | exact absurd (c21.symm.trans h4) (by decide)), fun _ => ⟨rfl, hP⟩⟩
        · have hm := mk_lt c4
          obtain ⟨x1, rfl, y1⟩ := vn_of (v := a1) (by omega) (by omega)
          obtain ⟨x2, rfl, y2⟩ := fm_of c21
          refine lv_aload_n hx hb d_Mod_exists_24 rfl (lv_at hl 0 rfl) ?_
          refine lv_bipush (v := nI 6) hx hb d_Mod_exists_25 (by decide) ?_
          refine lv_iload_n hx hb d_Mod_exists_27 rfl (lv_at hl 1 rfl) ?_
          refine lv_iload_n hx hb d_Mod_exists_28 rfl (lv_at hl 2 rfl) ?_
          refine lv_iload_n hx hb d_Mod_exists_29 rfl (lv_at hl 2 rfl) ?_
          refine mm_qi (mm_runV hK ⟨hx, hb, hml, hown⟩ lk_Mod_63 (c_Mod_make l G o ad nf wt np kK kW kF kS kL kE tm pr ga ho pa fr rg re hD 6 x1 x2 x2 (by omega)) ⟨rfl, rfl, by decide, by decide⟩ (mm_rc hK hP 0 rfl rfl) hP rfl hl.1 rfl (Nat.le_of_ble_eq_true rfl) ⟨by decide, by decide⟩ d_Mod_exists_30) hS (fun q h => h) (fun r30 H locs e30 hz1 hk1 hS => ?_)
          obtain ⟨rfl, hP⟩ := e30
          have hD : va_D A (TW G o ad (nf + 1) wt np (va_up kK nf 6) (va_up kW nf x1) (va_up kF nf x2) (va_up kS nf x2) (va_up kL nf 0) (va_up kE nf 0) tm pr ga ho pa fr rg re) := mD hD rfl
          refine lv_goto hx hb d_Mod_exists_33 (tgt := 37) (by decide) ?_
          exact mm_irQ hx hb hr hk hS d_Mod_exists_37 ⟨fun _ => ⟨rfl, by rw [cN_nI (by omega), cN_nI (by omega)]; exact hP⟩, fun h => absurd ⟨c4, ⟨by omega, by omega⟩, c21⟩ h⟩
set_option maxHeartbeats 4000000 in
set_option maxRecDepth 100000 in
theorem c_Mod_previous (l : Launch) (G : mm_G) (o : Nat) (ad : Nat → Nat) (nf : Nat) (wt : Bool) (np : Nat) (kK kW kF kS kL kE tm pr ga : Nat → Nat) (ho : Nat → Int64) (pa : Nat → Bool) (fr rg re : Nat → Nat) {A : Nat → Prop} (hD : va_D A (TW G o ad nf wt np kK kW kF kS kL kE tm pr ga ho pa fr rg re)) (a1 a2 a3 : Int32) (hn : nf ≤ 12) : Met l y_Mod_previous [.code y_Mod_previous b_Mod_previous 4 (some .int)] { frames := 2, cells := 0, slots := 0, locals := 50 } (mm_Pre G [.ref o, .int a1, .int a2, .int a3] (fun H => va_P G.1 cls_all (TW G o ad nf wt np kK kW kF kS kL kE tm pr ga ho pa fr rg re) H)) (mm_Qi (fun r H => (pvP wt nf a1 a2 a3 → r = nI nf ∧ va_P G.1 cls_all (TW G o ad (nf + 1) wt np (va_up kK nf 7) (va_up kW nf 0) (va_up kF nf (cN a3)) (va_up kS nf (cN a3)) (va_up kL nf (cN a1)) (va_up kE nf (eN a2)) tm pr ga ho pa fr rg re) H) ∧ (¬ pvP wt nf a1 a2 a3 → r = -1 ∧ va_P G.1 cls_all (TW G o ad nf wt np kK kW kF kS kL kE tm pr ga ho pa fr rg re) H)) A) 0 0 A := by
  refine mm_of (by decide) (Nat.le_of_ble_eq_true rfl) ?_
  intro p e s m below meth c ls hx hb hr hk hml hown hnm hK hP hl
  have hl : lv_has ls 4 [(0, .ref o), (1, .int a1), (2, .int a2), (3, .int a3)] := hl
  have hS : va_S A s.heap s.heap [] := va_S.rf
  refine lv_aload_n hx hb d_Mod_previous_0 rfl (lv_at hl 0 rfl) ?_
  refine mm_si (mm_runV hK ⟨hx, hb, hml, hown⟩ lk_Mod_67 (c_Mod_mayMake l G o ad nf wt np kK kW kF kS kL kE tm pr ga ho pa fr rg re hn) ⟨rfl, rfl, by decide, by decide⟩ (mm_rc hK hP 0 rfl rfl) hP rfl hl.1 rfl (Nat.le_of_ble_eq_true rfl) ⟨by decide, by decide⟩ d_Mod_previous_1) (fun r1 e1 => ?_)
  subst e1
  refine mm_ifeqB hx hb d_Mod_previous_4 (tgt := 37) (by decide) (fun c4 => ?_) (fun c4 => ?_)
  · refine lv_iconst hx hb d_Mod_previous_37 ci_m1 ?_
    exact mm_irQ hx hb hr hk hS d_Mod_previous_38 ⟨fun h => absurd h (fun h => by obtain ⟨h1, h2, h4⟩ := h; first | omega | exact absurd (c4.symm.trans h1) (by decide) | exact absurd (c13.symm.trans h2) (by decide) | exact absurd (c21.symm.trans h4) (by decide)), fun _ => ⟨rfl, hP⟩⟩
  · refine lv_iload_n hx hb d_Mod_previous_7 rfl (lv_at hl 1 rfl) ?_
    refine lv_iload_n hx hb d_Mod_previous_8 rfl (lv_at hl 2 rfl) ?_
    refine lv_iconst hx hb d_Mod_previous_9 ci_1 ?_
    refine mm_si (mm_runS hK ⟨hx, hb, hml, hown⟩ lk_Mod_78 (c_Mod_isInterval l G a1 a2 true) ⟨rfl, rfl, by decide, by decide⟩ trivial rfl hl.1 rfl (Nat.le_of_ble_eq_true rfl) ⟨by decide, by decide⟩ d_Mod_previous_10) (fun r10 e10 => ?_)
    subst e10
    refine mm_ifeqB hx hb d_Mod_previous_13 (tgt := 37) (by decide) (fun c13 => ?_) (fun c13 => ?_)
    · refine lv_iconst hx hb d_Mod_previous_37 ci_m1 ?_
      exact mm_irQ hx hb hr hk hS d_Mod_previous_38 ⟨fun h => absurd h (fun h => by obtain ⟨h1, h2, h4⟩ := h; first | omega | exact absurd (c4.symm.trans h1) (by decide) | exact absurd (c13.symm.trans h2) (by decide) | exact absurd (c21.symm.trans h4) (by decide)), fun _ => ⟨rfl, hP⟩⟩
    · refine lv_aload_n hx hb d_Mod_previous_16 rfl (lv_at hl 0 rfl) ?_
      refine lv_iload_n hx hb d_Mod_previous_17 rfl (lv_at hl 3 rfl) ?_
      refine mm_si (mm_runV hK ⟨hx, hb, hml, hown⟩ lk_Mod_75 (c_Mod_isFormula l G o ad nf wt np kK kW kF kS kL kE tm pr ga ho pa fr rg re a3 hn) ⟨rfl, rfl, by decide, by decide⟩ (mm_rc hK hP 0 rfl rfl) hP rfl hl.1 rfl (Nat.le_of_ble_eq_true rfl) ⟨by decide, by decide⟩ d_Mod_previous_18) (fun r18 e18 => ?_)
      subst e18
      refine mm_ifeqB hx hb d_Mod_previous_21 (tgt := 37) (by decide) (fun c21 => ?_) (fun c21 => ?_)
      · refine lv_iconst hx hb d_Mod_previous_37 ci_m1 ?_
        exact mm_irQ hx hb hr hk hS d_Mod_previous_38 ⟨fun h => absurd h (fun h => by obtain ⟨h1, h2, h4⟩ := h; first | omega | exact absurd (c4.symm.trans h1) (by decide) | exact absurd (c13.symm.trans h2) (by decide) | exact absurd (c21.symm.trans h4) (by decide)), fun _ => ⟨rfl, hP⟩⟩
      · have hm := mk_lt c4
        obtain ⟨x1, x2, rfl, rfl, y1, y2, -⟩ := iv_of c13
        obtain ⟨x3, rfl, y3⟩ := fm_of c21
        refine lv_aload_n hx hb d_Mod_previous_24 rfl (lv_at hl 0 rfl) ?_
        refine lv_bipush (v := nI 7) hx hb d_Mod_previous_25 (by decide) ?_
        refine lv_iload_n hx hb d_Mod_previous_27 rfl (lv_at hl 1 rfl) ?_
        refine lv_iload_n hx hb d_Mod_previous_28 rfl (lv_at hl 2 rfl) ?_
        refine lv_iload_n hx hb d_Mod_previous_29 rfl (lv_at hl 3 rfl) ?_
        refine lv_iload_n hx hb d_Mod_previous_30 rfl (lv_at hl 3 rfl) ?_
        refine mm_qi (mm_runV hK ⟨hx, hb, hml, hown⟩ lk_Mod_82 (c_Mod_makeTimed l G o ad nf wt np kK kW kF kS kL kE tm pr ga ho pa fr rg re hD 7 x1 x2 x3 x3 (by omega)) ⟨rfl, rfl, by decide, by decide⟩ (mm_rc hK hP 0 rfl rfl) hP rfl hl.1 rfl (Nat.le_of_ble_eq_true rfl) ⟨by decide, by decide⟩ d_Mod_previous_31) hS (fun q h => h) (fun r31 H locs e31 hz1 hk1 hS => ?_)
        obtain ⟨rfl, hP⟩ := e31
        have hD : va_D A (TW G o ad (nf + 1) wt np (va_up kK nf 7) (va_up kW nf 0) (va_up kF nf x3) (va_up kS nf x3) (va_up kL nf x1) (va_up kE nf x2) tm pr ga ho pa fr rg re) := mD hD rfl
        refine lv_goto hx hb d_Mod_previous_34 (tgt := 38) (by decide) ?_
        exact mm_irQ hx hb hr hk hS d_Mod_previous_38 ⟨fun _ => ⟨rfl, by rw [cN_nI (by omega), cN_nI (by omega), eN_e (by omega)]; exact hP⟩, fun h => absurd ⟨c4, c13, c21⟩ h⟩
set_option maxHeartbeats 4000000 in
set_option maxRecDepth 100000 in
theorem c_Mod_since (l : Launch) (G : mm_G) (o : Nat) (ad : Nat → Nat) (nf : Nat) (wt : Bool) (np : Nat) (kK kW kF kS kL kE tm pr ga : Nat → Nat) (ho : Nat → Int64) (pa : Nat → Bool) (fr rg re : Nat → Nat) {A : Nat → Prop} (hD : va_D A (TW G o ad nf wt np kK kW kF kS kL kE tm pr ga ho pa fr rg re)) (a1 a2 a3 a4 : Int32) (hn : nf ≤ 12) : Met l y_Mod_since [.code y_Mod_since b_Mod_since 5 (some .int)] { frames := 2, cells := 0, slots := 0, locals := 50 } (mm_Pre G [.ref o, .int a1, .int a2, .int a3, .int a4] (fun H => va_P G.1 cls_all (TW G o ad nf wt np kK kW kF kS kL kE tm pr ga ho pa fr rg re) H)) (mm_Qi (fun r H => (siP wt nf true a1 a2 a3 a4 → r = nI nf ∧ va_P G.1 cls_all (TW G o ad (nf + 1) wt np (va_up kK nf 8) (va_up kW nf 0) (va_up kF nf (cN a3)) (va_up kS nf (cN a4)) (va_up kL nf (cN a1)) (va_up kE nf (eN a2)) tm pr ga ho pa fr rg re) H) ∧ (¬ siP wt nf true a1 a2 a3 a4 → r = -1 ∧ va_P G.1 cls_all (TW G o ad nf wt np kK kW kF kS kL kE tm pr ga ho pa fr rg re) H)) A) 0 0 A := by
  refine mm_of (by decide) (Nat.le_of_ble_eq_true rfl) ?_
  intro p e s m below meth c ls hx hb hr hk hml hown hnm hK hP hl
  have hl : lv_has ls 5 [(0, .ref o), (1, .int a1), (2, .int a2), (3, .int a3), (4, .int a4)] := hl
  have hS : va_S A s.heap s.heap [] := va_S.rf
  refine lv_aload_n hx hb d_Mod_since_0 rfl (lv_at hl 0 rfl) ?_
  refine mm_si (mm_runV hK ⟨hx, hb, hml, hown⟩ lk_Mod_67 (c_Mod_mayMake l G o ad nf wt np kK kW kF kS kL kE tm pr ga ho pa fr rg re hn) ⟨rfl, rfl, by decide, by decide⟩ (mm_rc hK hP 0 rfl rfl) hP rfl hl.1 rfl (Nat.le_of_ble_eq_true rfl) ⟨by decide, by decide⟩ d_Mod_since_1) (fun r1 e1 => ?_)
  subst e1
  refine mm_ifeqB hx hb d_Mod_since_4 (tgt := 47) (by decide) (fun c4 => ?_) (fun c4 => ?_)
  · refine lv_iconst hx hb d_Mod_since_47 ci_m1 ?_
    exact mm_irQ hx hb hr hk hS d_Mod_since_48 ⟨fun h => absurd h (fun h => by obtain ⟨h1, h2, h4, h5⟩ := h; first | omega | exact absurd (c4.symm.trans h1) (by decide) | exact absurd (c13.symm.trans h2) (by decide) | exact absurd (c21.symm.trans h4) (by decide) | exact absurd (c30.symm.trans h5) (by decide)), fun _ => ⟨rfl, hP⟩⟩
  · refine lv_iload_n hx hb d_Mod_since_7 rfl (lv_at hl 1 rfl) ?_
    refine lv_iload_n hx hb d_Mod_since_8 rfl (lv_at hl 2 rfl) ?_
    refine lv_iconst hx hb d_Mod_since_9 ci_1 ?_
    refine mm_si (mm_runS hK ⟨hx, hb, hml, hown⟩ lk_Mod_78 (c_Mod_isInterval l G a1 a2 true) ⟨rfl, rfl, by decide, by decide⟩ trivial rfl hl.1 rfl (Nat.le_of_ble_eq_true rfl) ⟨by decide, by decide⟩ d_Mod_since_10) (fun r10 e10 => ?_)
    subst e10
    refine mm_ifeqB hx hb d_Mod_since_13 (tgt := 47) (by decide) (fun c13 => ?_) (fun c13 => ?_)
    · refine lv_iconst hx hb d_Mod_since_47 ci_m1 ?_
      exact mm_irQ hx hb hr hk hS d_Mod_since_48 ⟨fun h => absurd h (fun h => by obtain ⟨h1, h2, h4, h5⟩ := h; first | omega | exact absurd (c4.symm.trans h1) (by decide) | exact absurd (c13.symm.trans h2) (by decide) | exact absurd (c21.symm.trans h4) (by decide) | exact absurd (c30.symm.trans h5) (by decide)), fun _ => ⟨rfl, hP⟩⟩
    · refine lv_aload_n hx hb d_Mod_since_16 rfl (lv_at hl 0 rfl) ?_
      refine lv_iload_n hx hb d_Mod_since_17 rfl (lv_at hl 3 rfl) ?_
      refine mm_si (mm_runV hK ⟨hx, hb, hml, hown⟩ lk_Mod_75 (c_Mod_isFormula l G o ad nf wt np kK kW kF kS kL kE tm pr ga ho pa fr rg re a3 hn) ⟨rfl, rfl, by decide, by decide⟩ (mm_rc hK hP 0 rfl rfl) hP rfl hl.1 rfl (Nat.le_of_ble_eq_true rfl) ⟨by decide, by decide⟩ d_Mod_since_18) (fun r18 e18 => ?_)
      subst e18
      refine mm_ifeqB hx hb d_Mod_since_21 (tgt := 47) (by decide) (fun c21 => ?_) (fun c21 => ?_)
      · refine lv_iconst hx hb d_Mod_since_47 ci_m1 ?_
        exact mm_irQ hx hb hr hk hS d_Mod_since_48 ⟨fun h => absurd h (fun h => by obtain ⟨h1, h2, h4, h5⟩ := h; first | omega | exact absurd (c4.symm.trans h1) (by decide) | exact absurd (c13.symm.trans h2) (by decide) | exact absurd (c21.symm.trans h4) (by decide) | exact absurd (c30.symm.trans h5) (by decide)), fun _ => ⟨rfl, hP⟩⟩
      · refine lv_aload_n hx hb d_Mod_since_24 rfl (lv_at hl 0 rfl) ?_
        refine lv_iload hx hb d_Mod_since_25 (lv_at hl 4 rfl) ?_
        refine mm_si (mm_runV hK ⟨hx, hb, hml, hown⟩ lk_Mod_75 (c_Mod_isFormula l G o ad nf wt np kK kW kF kS kL kE tm pr ga ho pa fr rg re a4 hn) ⟨rfl, rfl, by decide, by decide⟩ (mm_rc hK hP 0 rfl rfl) hP rfl hl.1 rfl (Nat.le_of_ble_eq_true rfl) ⟨by decide, by decide⟩ d_Mod_since_27) (fun r27 e27 => ?_)
        subst e27
        refine mm_ifeqB hx hb d_Mod_since_30 (tgt := 47) (by decide) (fun c30 => ?_) (fun c30 => ?_)
        · refine lv_iconst hx hb d_Mod_since_47 ci_m1 ?_
          exact mm_irQ hx hb hr hk hS d_Mod_since_48 ⟨fun h => absurd h (fun h => by obtain ⟨h1, h2, h4, h5⟩ := h; first | omega | exact absurd (c4.symm.trans h1) (by decide) | exact absurd (c13.symm.trans h2) (by decide) | exact absurd (c21.symm.trans h4) (by decide) | exact absurd (c30.symm.trans h5) (by decide)), fun _ => ⟨rfl, hP⟩⟩
        · have hm := mk_lt c4
          obtain ⟨x1, x2, rfl, rfl, y1, y2, -⟩ := iv_of c13
          obtain ⟨x3, rfl, y3⟩ := fm_of c21
          obtain ⟨x4, rfl, y4⟩ := fm_of c30
          refine lv_aload_n hx hb d_Mod_since_33 rfl (lv_at hl 0 rfl) ?_
          refine lv_bipush (v := nI 8) hx hb d_Mod_since_34 (by decide) ?_
          refine lv_iload_n hx hb d_Mod_since_36 rfl (lv_at hl 1 rfl) ?_
          refine lv_iload_n hx hb d_Mod_since_37 rfl (lv_at hl 2 rfl) ?_
          refine lv_iload_n hx hb d_Mod_since_38 rfl (lv_at hl 3 rfl) ?_
          refine lv_iload hx hb d_Mod_since_39 (lv_at hl 4 rfl) ?_
          refine mm_qi (mm_runV hK ⟨hx, hb, hml, hown⟩ lk_Mod_82 (c_Mod_makeTimed l G o ad nf wt np kK kW kF kS kL kE tm pr ga ho pa fr rg re hD 8 x1 x2 x3 x4 (by omega)) ⟨rfl, rfl, by decide, by decide⟩ (mm_rc hK hP 0 rfl rfl) hP rfl hl.1 rfl (Nat.le_of_ble_eq_true rfl) ⟨by decide, by decide⟩ d_Mod_since_41) hS (fun q h => h) (fun r41 H locs e41 hz1 hk1 hS => ?_)
          obtain ⟨rfl, hP⟩ := e41
          have hD : va_D A (TW G o ad (nf + 1) wt np (va_up kK nf 8) (va_up kW nf 0) (va_up kF nf x3) (va_up kS nf x4) (va_up kL nf x1) (va_up kE nf x2) tm pr ga ho pa fr rg re) := mD hD rfl
          refine lv_goto hx hb d_Mod_since_44 (tgt := 48) (by decide) ?_
          exact mm_irQ hx hb hr hk hS d_Mod_since_48 ⟨fun _ => ⟨rfl, by rw [cN_nI (by omega), cN_nI (by omega), cN_nI (by omega), eN_e (by omega)]; exact hP⟩, fun h => absurd ⟨c4, c13, c21, c30⟩ h⟩
set_option maxHeartbeats 4000000 in
set_option maxRecDepth 100000 in
theorem c_Mod_until (l : Launch) (G : mm_G) (o : Nat) (ad : Nat → Nat) (nf : Nat) (wt : Bool) (np : Nat) (kK kW kF kS kL kE tm pr ga : Nat → Nat) (ho : Nat → Int64) (pa : Nat → Bool) (fr rg re : Nat → Nat) {A : Nat → Prop} (hD : va_D A (TW G o ad nf wt np kK kW kF kS kL kE tm pr ga ho pa fr rg re)) (a1 a2 a3 a4 : Int32) (hn : nf ≤ 12) : Met l y_Mod_until [.code y_Mod_until b_Mod_until 5 (some .int)] { frames := 2, cells := 0, slots := 0, locals := 50 } (mm_Pre G [.ref o, .int a1, .int a2, .int a3, .int a4] (fun H => va_P G.1 cls_all (TW G o ad nf wt np kK kW kF kS kL kE tm pr ga ho pa fr rg re) H)) (mm_Qi (fun r H => (siP wt nf false a1 a2 a3 a4 → r = nI nf ∧ va_P G.1 cls_all (TW G o ad (nf + 1) wt np (va_up kK nf 9) (va_up kW nf 0) (va_up kF nf (cN a3)) (va_up kS nf (cN a4)) (va_up kL nf (cN a1)) (va_up kE nf (eN a2)) tm pr ga ho pa fr rg re) H) ∧ (¬ siP wt nf false a1 a2 a3 a4 → r = -1 ∧ va_P G.1 cls_all (TW G o ad nf wt np kK kW kF kS kL kE tm pr ga ho pa fr rg re) H)) A) 0 0 A := by
  refine mm_of (by decide) (Nat.le_of_ble_eq_true rfl) ?_
  intro p e s m below meth c ls hx hb hr hk hml hown hnm hK hP hl
  have hl : lv_has ls 5 [(0, .ref o), (1, .int a1), (2, .int a2), (3, .int a3), (4, .int a4)] := hl
  have hS : va_S A s.heap s.heap [] := va_S.rf
  refine lv_aload_n hx hb d_Mod_until_0 rfl (lv_at hl 0 rfl) ?_
  refine mm_si (mm_runV hK ⟨hx, hb, hml, hown⟩ lk_Mod_67 (c_Mod_mayMake l G o ad nf wt np kK kW kF kS kL kE tm pr ga ho pa fr rg re hn) ⟨rfl, rfl, by decide, by decide⟩ (mm_rc hK hP 0 rfl rfl) hP rfl hl.1 rfl (Nat.le_of_ble_eq_true rfl) ⟨by decide, by decide⟩ d_Mod_until_1) (fun r1 e1 => ?_)
  subst e1
  refine mm_ifeqB hx hb d_Mod_until_4 (tgt := 47) (by decide) (fun c4 => ?_) (fun c4 => ?_)
  · refine lv_iconst hx hb d_Mod_until_47 ci_m1 ?_
    exact mm_irQ hx hb hr hk hS d_Mod_until_48 ⟨fun h => absurd h (fun h => by obtain ⟨h1, h2, h4, h5⟩ := h; first | omega | exact absurd (c4.symm.trans h1) (by decide) | exact absurd (c13.symm.trans h2) (by decide) | exact absurd (c21.symm.trans h4) (by decide) | exact absurd (c30.symm.trans h5) (by decide)), fun _ => ⟨rfl, hP⟩⟩
  · refine lv_iload_n hx hb d_Mod_until_7 rfl (lv_at hl 1 rfl) ?_
    refine lv_iload_n hx hb d_Mod_until_8 rfl (lv_at hl 2 rfl) ?_
    refine lv_iconst hx hb d_Mod_until_9 ci_0 ?_
    refine mm_si (mm_runS hK ⟨hx, hb, hml, hown⟩ lk_Mod_78 (c_Mod_isInterval l G a1 a2 false) ⟨rfl, rfl, by decide, by decide⟩ trivial rfl hl.1 rfl (Nat.le_of_ble_eq_true rfl) ⟨by decide, by decide⟩ d_Mod_until_10) (fun r10 e10 => ?_)
    subst e10
    refine mm_ifeqB hx hb d_Mod_until_13 (tgt := 47) (by decide) (fun c13 => ?_) (fun c13 => ?_)
    · refine lv_iconst hx hb d_Mod_until_47 ci_m1 ?_
      exact mm_irQ hx hb hr hk hS d_Mod_until_48 ⟨fun h => absurd h (fun h => by obtain ⟨h1, h2, h4, h5⟩ := h; first | omega | exact absurd (c4.symm.trans h1) (by decide) | exact absurd (c13.symm.trans h2) (by decide) | exact absurd (c21.symm.trans h4) (by decide) | exact absurd (c30.symm.trans h5) (by decide)), fun _ => ⟨rfl, hP⟩⟩
    · refine lv_aload_n hx hb d_Mod_until_16 rfl (lv_at hl 0 rfl) ?_
      refine lv_iload_n hx hb d_Mod_until_17 rfl (lv_at hl 3 rfl) ?_
      refine mm_si (mm_runV hK ⟨hx, hb, hml, hown⟩ lk_Mod_75 (c_Mod_isFormula l G o ad nf wt np kK kW kF kS kL kE tm pr ga ho pa fr rg re a3 hn) ⟨rfl, rfl, by decide, by decide⟩ (mm_rc hK hP 0 rfl rfl) hP rfl hl.1 rfl (Nat.le_of_ble_eq_true rfl) ⟨by decide, by decide⟩ d_Mod_until_18) (fun r18 e18 => ?_)
      subst e18
      refine mm_ifeqB hx hb d_Mod_until_21 (tgt := 47) (by decide) (fun c21 => ?_) (fun c21 => ?_)
      · refine lv_iconst hx hb d_Mod_until_47 ci_m1 ?_
        exact mm_irQ hx hb hr hk hS d_Mod_until_48 ⟨fun h => absurd h (fun h => by obtain ⟨h1, h2, h4, h5⟩ := h; first | omega | exact absurd (c4.symm.trans h1) (by decide) | exact absurd (c13.symm.trans h2) (by decide) | exact absurd (c21.symm.trans h4) (by decide) | exact absurd (c30.symm.trans h5) (by decide)), fun _ => ⟨rfl, hP⟩⟩
      · refine lv_aload_n hx hb d_Mod_until_24 rfl (lv_at hl 0 rfl) ?_
        refine lv_iload hx hb d_Mod_until_25 (lv_at hl 4 rfl) ?_
        refine mm_si (mm_runV hK ⟨hx, hb, hml, hown⟩ lk_Mod_75 (c_Mod_isFormula l G o ad nf wt np kK kW kF kS kL kE tm pr ga ho pa fr rg re a4 hn) ⟨rfl, rfl, by decide, by decide⟩ (mm_rc hK hP 0 rfl rfl) hP rfl hl.1 rfl (Nat.le_of_ble_eq_true rfl) ⟨by decide, by decide⟩ d_Mod_until_27) (fun r27 e27 => ?_)
        subst e27
        refine mm_ifeqB hx hb d_Mod_until_30 (tgt := 47) (by decide) (fun c30 => ?_) (fun c30 => ?_)
        · refine lv_iconst hx hb d_Mod_until_47 ci_m1 ?_
          exact mm_irQ hx hb hr hk hS d_Mod_until_48 ⟨fun h => absurd h (fun h => by obtain ⟨h1, h2, h4, h5⟩ := h; first | omega | exact absurd (c4.symm.trans h1) (by decide) | exact absurd (c13.symm.trans h2) (by decide) | exact absurd (c21.symm.trans h4) (by decide) | exact absurd (c30.symm.trans h5) (by decide)), fun _ => ⟨rfl, hP⟩⟩
        · have hm := mk_lt c4
          obtain ⟨x1, x2, rfl, rfl, y1, y2, -⟩ := iv_of c13
          obtain ⟨x3, rfl, y3⟩ := fm_of c21
          obtain ⟨x4, rfl, y4⟩ := fm_of c30
          refine lv_aload_n hx hb d_Mod_until_33 rfl (lv_at hl 0 rfl) ?_
          refine lv_bipush (v := nI 9) hx hb d_Mod_until_34 (by decide) ?_
          refine lv_iload_n hx hb d_Mod_until_36 rfl (lv_at hl 1 rfl) ?_
          refine lv_iload_n hx hb d_Mod_until_37 rfl (lv_at hl 2 rfl) ?_
          refine lv_iload_n hx hb d_Mod_until_38 rfl (lv_at hl 3 rfl) ?_
          refine lv_iload hx hb d_Mod_until_39 (lv_at hl 4 rfl) ?_
          refine mm_qi (mm_runV hK ⟨hx, hb, hml, hown⟩ lk_Mod_82 (c_Mod_makeTimed l G o ad nf wt np kK kW kF kS kL kE tm pr ga ho pa fr rg re hD 9 x1 x2 x3 x4 (by omega)) ⟨rfl, rfl, by decide, by decide⟩ (mm_rc hK hP 0 rfl rfl) hP rfl hl.1 rfl (Nat.le_of_ble_eq_true rfl) ⟨by decide, by decide⟩ d_Mod_until_41) hS (fun q h => h) (fun r41 H locs e41 hz1 hk1 hS => ?_)
          obtain ⟨rfl, hP⟩ := e41
          have hD : va_D A (TW G o ad (nf + 1) wt np (va_up kK nf 9) (va_up kW nf 0) (va_up kF nf x3) (va_up kS nf x4) (va_up kL nf x1) (va_up kE nf x2) tm pr ga ho pa fr rg re) := mD hD rfl
          refine lv_goto hx hb d_Mod_until_44 (tgt := 48) (by decide) ?_
          exact mm_irQ hx hb hr hk hS d_Mod_until_48 ⟨fun _ => ⟨rfl, by rw [cN_nI (by omega), cN_nI (by omega), cN_nI (by omega), eN_e (by omega)]; exact hP⟩, fun h => absurd ⟨c4, c13, c21, c30⟩ h⟩
