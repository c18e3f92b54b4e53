set_option maxHeartbeats 4000000 in
set_option maxRecDepth 100000 in
theorem c_Mod_sinceAt (l : Launch) (G : mm_G) (o : Nat) (ad : Nat → Nat) (nf : Nat) (wt : Bool) (np : Nat) (kK kW kF kS kL kE tm pr ga : Nat → Nat) (ho : Nat → Int64) (pa : Nat → Bool) (fr rg re : Nat → Nat) (f i n : Nat) (hf : f < 12) (h1 : kF f < 12) (h2 : kS f < 12) (hL : kL f ≤ 1000000) (hE : kE f ≤ 1000001) (hi : i < np) (hn : n < 64) (hT : TL np tm) : Met l y_Mod_sinceAt [.code y_Mod_sinceAt b_Mod_sinceAt 5 (some .boolean)] { frames := 1, cells := 0, slots := 0, locals := 23 } (mm_Pre G [.ref o, .int (nI f), .int (nI i), .int (nI n)] (fun H => va_P G.1 cls_all (TW G o ad nf wt np kK kW kF kS kL kE tm pr ga ho pa fr rg re) H)) (vp_Si (fun r => r = bI (snV kF kS kL kE tm ho f i n (i + 1)))) 0 0 (fun _ => False) := by
  refine mm_of (by decide) (Nat.le_of_ble_eq_true rfl) ?_
  intro p e s m below meth c ls hx hb hr hk hml hown hnm hK hP hl
  have hl : lv_has ls 5 [(0, .ref o), (1, .int (nI f)), (2, .int (nI i)), (3, .int (nI n))] := hl
  obtain ⟨t1, t2, t3⟩ := hT
  have b1 := t2 i hi
  refine lv_iload_n hx hb d_Mod_sinceAt_0 rfl (lv_at hl 2 rfl) ?_
  refine mm_ti (y := nI (i + 1) - 1) (nI_pred i).symm ?_
  refine lv_istore (lv' := [(4, .int (nI (i + 1) - 1)), (0, .ref o), (1, .int (nI f)), (2, .int (nI i)), (3, .int (nI n))]) hx hb d_Mod_sinceAt_1 hl (by decide) rfl (fun ls hl => ?_)
  refine mm_loopR (σ := (Nat)) (fun (j1 : Nat) ls => lv_has ls 5 [(0, .ref o), (1, .int (nI f)), (2, .int (nI i)), (3, .int (nI n)), (4, .int (nI j1 - 1))] ∧ (j1 ≤ i + 1) ∧ (snV kF kS kL kE tm ho f i n (i + 1) = snV kF kS kL kE tm ho f i n j1)) (fun (j1 : Nat) => j1) ?_ (i + 1) _ ⟨(lv_sub hl [1, 2, 3, 4, 0] rfl), (Nat.le_refl _), rfl⟩
  rintro j1 ls ⟨hl, hj, hv⟩ ih3
  refine lv_iload hx hb d_Mod_sinceAt_3 (lv_at hl 4 rfl) ?_
  refine lv_if_lt hx hb d_Mod_sinceAt_5 (tgt := 72) (by decide) (fun c5 => ?_) (fun c5 => ?_)
  · rw [Int32.lt_iff_toInt_lt, eI_toInt (n := j1) (by omega), Int32.toInt_zero] at c5
    refine lv_iconst hx hb d_Mod_sinceAt_72 ci_0 ?_
    exact mm_zrS false (by first | rfl | decide) hx hb hr hk d_Mod_sinceAt_73 (by rw [hv, show j1 = 0 by omega]; rfl)
  · rw [Int32.lt_iff_toInt_lt, eI_toInt (n := j1) (by omega), Int32.toInt_zero] at c5
    obtain ⟨k, rfl⟩ : ∃ k, j1 = k + 1 := ⟨j1 - 1, by omega⟩
    rw [nI_pred] at hl
    have b2 := t3 k i (by omega) hi
    refine lv_aload_n hx hb d_Mod_sinceAt_8 rfl (lv_at hl 0 rfl) ?_
    refine lv_iload_n hx hb d_Mod_sinceAt_9 rfl (lv_at hl 1 rfl) ?_
    refine lv_aload_n hx hb d_Mod_sinceAt_10 rfl (lv_at hl 0 rfl) ?_
    refine mm_get (v := .ref (ad 6)) hK hx hb hown lg_Mod_28 hP 0 rfl rfl d_Mod_sinceAt_11 ?_
    refine lv_iload_n hx hb d_Mod_sinceAt_14 rfl (lv_at hl 2 rfl) ?_
    refine mm_iald hK hx hb hP 7 rfl (by decide) (i := i) (by omega) d_Mod_sinceAt_15 ?_
    refine lv_aload_n hx hb d_Mod_sinceAt_16 rfl (lv_at hl 0 rfl) ?_
    refine mm_get (v := .ref (ad 6)) hK hx hb hown lg_Mod_28 hP 0 rfl rfl d_Mod_sinceAt_17 ?_
    refine lv_iload hx hb d_Mod_sinceAt_20 (lv_at hl 4 rfl) ?_
    refine mm_iald hK hx hb hP 7 rfl (by decide) (i := k) (by omega) d_Mod_sinceAt_22 ?_
    refine lv_isub hx hb d_Mod_sinceAt_23 ?_
    refine mm_ti (y := nI (tm i - tm k)) (pk_sub b2) ?_
    refine mm_si (mm_runV hK ⟨hx, hb, hml, hown⟩ lk_Mod_106 (c_Mod_lies l G o ad nf wt np kK kW kF kS kL kE tm pr ga ho pa fr rg re f (tm i - tm k) (by omega) (by omega) (by omega) (by omega)) ⟨rfl, rfl, by decide, by decide⟩ (mm_rc hK hP 0 rfl rfl) hP rfl hl.1 rfl (Nat.le_of_ble_eq_true rfl) ⟨by decide, by decide⟩ d_Mod_sinceAt_24) (fun r24 e24 => ?_)
    subst e24
    refine mm_ifeqB hx hb d_Mod_sinceAt_27 (tgt := 48) (by decide) (fun c27 => ?_) (fun c27 => ?_)
    · refine lv_aload_n hx hb d_Mod_sinceAt_48 rfl (lv_at hl 0 rfl) ?_
      refine lv_aload_n hx hb d_Mod_sinceAt_49 rfl (lv_at hl 0 rfl) ?_
      refine mm_get (v := .ref (ad 2)) hK hx hb hown lg_Mod_16 hP 0 rfl rfl d_Mod_sinceAt_50 ?_
      refine lv_iload_n hx hb d_Mod_sinceAt_53 rfl (lv_at hl 1 rfl) ?_
      refine mm_iald hK hx hb hP 3 rfl (by decide) (i := f) (by omega) d_Mod_sinceAt_54 ?_
      refine lv_iload hx hb d_Mod_sinceAt_55 (lv_at hl 4 rfl) ?_
      refine lv_iload_n hx hb d_Mod_sinceAt_57 rfl (lv_at hl 3 rfl) ?_
      refine mm_si (mm_runV hK ⟨hx, hb, hml, hown⟩ lk_Mod_110 (c_Mod_at l G o ad nf wt np kK kW kF kS kL kE tm pr ga ho pa fr rg re (kF f) k n (by omega) (by omega) hn) ⟨rfl, rfl, by decide, by decide⟩ (mm_rc hK hP 0 rfl rfl) hP rfl hl.1 rfl (Nat.le_of_ble_eq_true rfl) ⟨by decide, by decide⟩ d_Mod_sinceAt_58) (fun r58 e58 => ?_)
      subst e58
      refine mm_ifneB hx hb d_Mod_sinceAt_61 (tgt := 66) (by decide) (fun c61 => ?_) (fun c61 => ?_)
      · refine lv_iinc (k := 4) (v := nI k - 1) (lv' := [(4, .int (nI k - 1)), (0, .ref o), (1, .int (nI f)), (2, .int (nI i)), (3, .int (nI n))]) hx hb d_Mod_sinceAt_66 hl rfl (decE _) (by decide) rfl (fun ls hl => ?_)
        refine lv_goto hx hb d_Mod_sinceAt_69 (tgt := 3) (by decide) ?_
        exact ih3 k _ ⟨(lv_sub hl [1, 2, 3, 4, 0] rfl), (by omega), (hv.trans (snV_s (by first | exact and_f1 c27 | exact and_f2 c43) c61))⟩ (by (try dsimp only); omega)
      · refine lv_iconst hx hb d_Mod_sinceAt_64 ci_0 ?_
        exact mm_zrS false (by first | rfl | decide) hx hb hr hk d_Mod_sinceAt_65 (by rw [hv, snV_f (by first | exact and_f1 c27 | exact and_f2 c43) c61])
    · refine lv_aload_n hx hb d_Mod_sinceAt_30 rfl (lv_at hl 0 rfl) ?_
      refine lv_aload_n hx hb d_Mod_sinceAt_31 rfl (lv_at hl 0 rfl) ?_
      refine mm_get (v := .ref (ad 3)) hK hx hb hown lg_Mod_19 hP 0 rfl rfl d_Mod_sinceAt_32 ?_
      refine lv_iload_n hx hb d_Mod_sinceAt_35 rfl (lv_at hl 1 rfl) ?_
      refine mm_iald hK hx hb hP 4 rfl (by decide) (i := f) (by omega) d_Mod_sinceAt_36 ?_
      refine lv_iload hx hb d_Mod_sinceAt_37 (lv_at hl 4 rfl) ?_
      refine lv_iload_n hx hb d_Mod_sinceAt_39 rfl (lv_at hl 3 rfl) ?_
      refine mm_si (mm_runV hK ⟨hx, hb, hml, hown⟩ lk_Mod_110 (c_Mod_at l G o ad nf wt np kK kW kF kS kL kE tm pr ga ho pa fr rg re (kS f) k n (by omega) (by omega) hn) ⟨rfl, rfl, by decide, by decide⟩ (mm_rc hK hP 0 rfl rfl) hP rfl hl.1 rfl (Nat.le_of_ble_eq_true rfl) ⟨by decide, by decide⟩ d_Mod_sinceAt_40) (fun r40 e40 => ?_)
      subst e40
      refine mm_ifeqB hx hb d_Mod_sinceAt_43 (tgt := 48) (by decide) (fun c43 => ?_) (fun c43 => ?_)
      · refine lv_aload_n hx hb d_Mod_sinceAt_48 rfl (lv_at hl 0 rfl) ?_
        refine lv_aload_n hx hb d_Mod_sinceAt_49 rfl (lv_at hl 0 rfl) ?_
        refine mm_get (v := .ref (ad 2)) hK hx hb hown lg_Mod_16 hP 0 rfl rfl d_Mod_sinceAt_50 ?_
        refine lv_iload_n hx hb d_Mod_sinceAt_53 rfl (lv_at hl 1 rfl) ?_
        refine mm_iald hK hx hb hP 3 rfl (by decide) (i := f) (by omega) d_Mod_sinceAt_54 ?_
        refine lv_iload hx hb d_Mod_sinceAt_55 (lv_at hl 4 rfl) ?_
        refine lv_iload_n hx hb d_Mod_sinceAt_57 rfl (lv_at hl 3 rfl) ?_
        refine mm_si (mm_runV hK ⟨hx, hb, hml, hown⟩ lk_Mod_110 (c_Mod_at l G o ad nf wt np kK kW kF kS kL kE tm pr ga ho pa fr rg re (kF f) k n (by omega) (by omega) hn) ⟨rfl, rfl, by decide, by decide⟩ (mm_rc hK hP 0 rfl rfl) hP rfl hl.1 rfl (Nat.le_of_ble_eq_true rfl) ⟨by decide, by decide⟩ d_Mod_sinceAt_58) (fun r58 e58 => ?_)
        subst e58
        refine mm_ifneB hx hb d_Mod_sinceAt_61 (tgt := 66) (by decide) (fun c61 => ?_) (fun c61 => ?_)
        · refine lv_iinc (k := 4) (v := nI k - 1) (lv' := [(4, .int (nI k - 1)), (0, .ref o), (1, .int (nI f)), (2, .int (nI i)), (3, .int (nI n))]) hx hb d_Mod_sinceAt_66 hl rfl (decE _) (by decide) rfl (fun ls hl => ?_)
          refine lv_goto hx hb d_Mod_sinceAt_69 (tgt := 3) (by decide) ?_
          exact ih3 k _ ⟨(lv_sub hl [1, 2, 3, 4, 0] rfl), (by omega), (hv.trans (snV_s (by first | exact and_f1 c27 | exact and_f2 c43) c61))⟩ (by (try dsimp only); omega)
        · refine lv_iconst hx hb d_Mod_sinceAt_64 ci_0 ?_
          exact mm_zrS false (by first | rfl | decide) hx hb hr hk d_Mod_sinceAt_65 (by rw [hv, snV_f (by first | exact and_f1 c27 | exact and_f2 c43) c61])
      · refine lv_iconst hx hb d_Mod_sinceAt_46 ci_1 ?_
        exact mm_zrS true (by first | rfl | decide) hx hb hr hk d_Mod_sinceAt_47 (by rw [hv, snV_t c27 c43])
set_option maxHeartbeats 4000000 in
set_option maxRecDepth 100000 in
theorem c_Mod_untilAt (l : Launch) (G : mm_G) (o : Nat) (ad : Nat → Nat) (nf : Nat) (wt : Bool) (np : Nat) (kK kW kF kS kL kE tm pr ga : Nat → Nat) (ho : Nat → Int64) (pa : Nat → Bool) (fr rg re : Nat → Nat) (f i n : Nat) (hf : f < 12) (h1 : kF f < 12) (h2 : kS f < 12) (hL : kL f ≤ 1000000) (hE : kE f ≤ 1000001) (hi : i < np) (hn : n < 64) (hT : TL np tm) : Met l y_Mod_untilAt [.code y_Mod_untilAt b_Mod_untilAt 5 (some .boolean)] { frames := 1, cells := 0, slots := 0, locals := 23 } (mm_Pre G [.ref o, .int (nI f), .int (nI i), .int (nI n)] (fun H => va_P G.1 cls_all (TW G o ad nf wt np kK kW kF kS kL kE tm pr ga ho pa fr rg re) H)) (vp_Si (fun r => r = bI (unV kF kS kL kE tm ho f i n (np - i) i))) 0 0 (fun _ => False) := by
  refine mm_of (by decide) (Nat.le_of_ble_eq_true rfl) ?_
  intro p e s m below meth c ls hx hb hr hk hml hown hnm hK hP hl
  have hl : lv_has ls 5 [(0, .ref o), (1, .int (nI f)), (2, .int (nI i)), (3, .int (nI n))] := hl
  obtain ⟨t1, t2, t3⟩ := hT
  have b1 := t2 i hi
  refine lv_iload_n hx hb d_Mod_untilAt_0 rfl (lv_at hl 2 rfl) ?_
  refine lv_istore (lv' := [(4, .int (nI i)), (0, .ref o), (1, .int (nI f)), (2, .int (nI i)), (3, .int (nI n))]) hx hb d_Mod_untilAt_1 hl (by decide) rfl (fun ls hl => ?_)
  refine mm_loopR (σ := (Nat)) (fun (j : Nat) ls => lv_has ls 5 [(0, .ref o), (1, .int (nI f)), (2, .int (nI i)), (3, .int (nI n)), (4, .int (nI j))] ∧ (i ≤ j ∧ j ≤ np) ∧ (unV kF kS kL kE tm ho f i n (np - i) i = unV kF kS kL kE tm ho f i n (np - j) j)) (fun (j : Nat) => np - j) ?_ i _ ⟨(lv_sub hl [1, 2, 3, 4, 0] rfl), ⟨Nat.le_refl _, by omega⟩, rfl⟩
  rintro j ls ⟨hl, hj, hv⟩ ih3
  refine lv_iload hx hb d_Mod_untilAt_3 (lv_at hl 4 rfl) ?_
  refine lv_aload_n hx hb d_Mod_untilAt_5 rfl (lv_at hl 0 rfl) ?_
  refine mm_get (v := .int (nI np)) hK hx hb hown lg_Mod_96 hP 0 rfl rfl d_Mod_untilAt_6 ?_
  refine lv_icmp_ge hx hb d_Mod_untilAt_9 (tgt := 76) (by decide) (fun c9 => ?_) (fun c9 => ?_)
  · have c9 : j ≥ np := nb_get (by omega) (by omega) c9
    refine lv_iconst hx hb d_Mod_untilAt_76 ci_0 ?_
    exact mm_zrS false (by first | rfl | decide) hx hb hr hk d_Mod_untilAt_77 (by rw [hv, show np - j = 0 by omega]; rfl)
  · have c9 : j < np := nb_gef (by omega) (by omega) c9
    have b2 := t3 i j (by omega) c9
    have b3 := t2 j c9
    obtain ⟨r, er⟩ : ∃ r, np - j = r + 1 := ⟨np - j - 1, by omega⟩
    rw [er] at hv
    refine lv_aload_n hx hb d_Mod_untilAt_12 rfl (lv_at hl 0 rfl) ?_
    refine lv_iload_n hx hb d_Mod_untilAt_13 rfl (lv_at hl 1 rfl) ?_
    refine lv_aload_n hx hb d_Mod_untilAt_14 rfl (lv_at hl 0 rfl) ?_
    refine mm_get (v := .ref (ad 6)) hK hx hb hown lg_Mod_28 hP 0 rfl rfl d_Mod_untilAt_15 ?_
    refine lv_iload hx hb d_Mod_untilAt_18 (lv_at hl 4 rfl) ?_
    refine mm_iald hK hx hb hP 7 rfl (by decide) (i := j) (by omega) d_Mod_untilAt_20 ?_
    refine lv_aload_n hx hb d_Mod_untilAt_21 rfl (lv_at hl 0 rfl) ?_
    refine mm_get (v := .ref (ad 6)) hK hx hb hown lg_Mod_28 hP 0 rfl rfl d_Mod_untilAt_22 ?_
    refine lv_iload_n hx hb d_Mod_untilAt_25 rfl (lv_at hl 2 rfl) ?_
    refine mm_iald hK hx hb hP 7 rfl (by decide) (i := i) (by omega) d_Mod_untilAt_26 ?_
    refine lv_isub hx hb d_Mod_untilAt_27 ?_
    refine mm_ti (y := nI (tm j - tm i)) (pk_sub b2) ?_
    refine mm_si (mm_runV hK ⟨hx, hb, hml, hown⟩ lk_Mod_106 (c_Mod_lies l G o ad nf wt np kK kW kF kS kL kE tm pr ga ho pa fr rg re f (tm j - tm i) (by omega) (by omega) (by omega) (by omega)) ⟨rfl, rfl, by decide, by decide⟩ (mm_rc hK hP 0 rfl rfl) hP rfl hl.1 rfl (Nat.le_of_ble_eq_true rfl) ⟨by decide, by decide⟩ d_Mod_untilAt_28) (fun r28 e28 => ?_)
    subst e28
    refine mm_ifeqB hx hb d_Mod_untilAt_31 (tgt := 52) (by decide) (fun c31 => ?_) (fun c31 => ?_)
    · refine lv_aload_n hx hb d_Mod_untilAt_52 rfl (lv_at hl 0 rfl) ?_
      refine lv_aload_n hx hb d_Mod_untilAt_53 rfl (lv_at hl 0 rfl) ?_
      refine mm_get (v := .ref (ad 2)) hK hx hb hown lg_Mod_16 hP 0 rfl rfl d_Mod_untilAt_54 ?_
      refine lv_iload_n hx hb d_Mod_untilAt_57 rfl (lv_at hl 1 rfl) ?_
      refine mm_iald hK hx hb hP 3 rfl (by decide) (i := f) (by omega) d_Mod_untilAt_58 ?_
      refine lv_iload hx hb d_Mod_untilAt_59 (lv_at hl 4 rfl) ?_
      refine lv_iload_n hx hb d_Mod_untilAt_61 rfl (lv_at hl 3 rfl) ?_
      refine mm_si (mm_runV hK ⟨hx, hb, hml, hown⟩ lk_Mod_110 (c_Mod_at l G o ad nf wt np kK kW kF kS kL kE tm pr ga ho pa fr rg re (kF f) j n (by omega) (by omega) hn) ⟨rfl, rfl, by decide, by decide⟩ (mm_rc hK hP 0 rfl rfl) hP rfl hl.1 rfl (Nat.le_of_ble_eq_true rfl) ⟨by decide, by decide⟩ d_Mod_untilAt_62) (fun r62 e62 => ?_)
      subst e62
      refine mm_ifneB hx hb d_Mod_untilAt_65 (tgt := 70) (by decide) (fun c65 => ?_) (fun c65 => ?_)
      · refine lv_iinc (k := 4) (v := nI (j + 1)) (lv' := [(4, .int (nI (j + 1))), (0, .ref o), (1, .int (nI f)), (2, .int (nI i)), (3, .int (nI n))]) hx hb d_Mod_untilAt_70 hl rfl (inc1 _) (by decide) rfl (fun ls hl => ?_)
        refine lv_goto hx hb d_Mod_untilAt_73 (tgt := 3) (by decide) ?_
        exact ih3 (j + 1) _ ⟨(lv_sub hl [1, 2, 3, 4, 0] rfl), ⟨by omega, by omega⟩, (by rw [show np - (j + 1) = r by omega]; exact hv.trans (unV_s (by first | exact and_f1 c31 | exact and_f2 c47) c65))⟩ (by (try dsimp only); omega)
      · refine lv_iconst hx hb d_Mod_untilAt_68 ci_0 ?_
        exact mm_zrS false (by first | rfl | decide) hx hb hr hk d_Mod_untilAt_69 (by rw [hv, unV_f (by first | exact and_f1 c31 | exact and_f2 c47) c65])
    · refine lv_aload_n hx hb d_Mod_untilAt_34 rfl (lv_at hl 0 rfl) ?_
      refine lv_aload_n hx hb d_Mod_untilAt_35 rfl (lv_at hl 0 rfl) ?_
      refine mm_get (v := .ref (ad 3)) hK hx hb hown lg_Mod_19 hP 0 rfl rfl d_Mod_untilAt_36 ?_
      refine lv_iload_n hx hb d_Mod_untilAt_39 rfl (lv_at hl 1 rfl) ?_
      refine mm_iald hK hx hb hP 4 rfl (by decide) (i := f) (by omega) d_Mod_untilAt_40 ?_
      refine lv_iload hx hb d_Mod_untilAt_41 (lv_at hl 4 rfl) ?_
      refine lv_iload_n hx hb d_Mod_untilAt_43 rfl (lv_at hl 3 rfl) ?_
      refine mm_si (mm_runV hK ⟨hx, hb, hml, hown⟩ lk_Mod_110 (c_Mod_at l G o ad nf wt np kK kW kF kS kL kE tm pr ga ho pa fr rg re (kS f) j n (by omega) (by omega) hn) ⟨rfl, rfl, by decide, by decide⟩ (mm_rc hK hP 0 rfl rfl) hP rfl hl.1 rfl (Nat.le_of_ble_eq_true rfl) ⟨by decide, by decide⟩ d_Mod_untilAt_44) (fun r44 e44 => ?_)
      subst e44
      refine mm_ifeqB hx hb d_Mod_untilAt_47 (tgt := 52) (by decide) (fun c47 => ?_) (fun c47 => ?_)
      · refine lv_aload_n hx hb d_Mod_untilAt_52 rfl (lv_at hl 0 rfl) ?_
        refine lv_aload_n hx hb d_Mod_untilAt_53 rfl (lv_at hl 0 rfl) ?_
        refine mm_get (v := .ref (ad 2)) hK hx hb hown lg_Mod_16 hP 0 rfl rfl d_Mod_untilAt_54 ?_
        refine lv_iload_n hx hb d_Mod_untilAt_57 rfl (lv_at hl 1 rfl) ?_
        refine mm_iald hK hx hb hP 3 rfl (by decide) (i := f) (by omega) d_Mod_untilAt_58 ?_
        refine lv_iload hx hb d_Mod_untilAt_59 (lv_at hl 4 rfl) ?_
        refine lv_iload_n hx hb d_Mod_untilAt_61 rfl (lv_at hl 3 rfl) ?_
        refine mm_si (mm_runV hK ⟨hx, hb, hml, hown⟩ lk_Mod_110 (c_Mod_at l G o ad nf wt np kK kW kF kS kL kE tm pr ga ho pa fr rg re (kF f) j n (by omega) (by omega) hn) ⟨rfl, rfl, by decide, by decide⟩ (mm_rc hK hP 0 rfl rfl) hP rfl hl.1 rfl (Nat.le_of_ble_eq_true rfl) ⟨by decide, by decide⟩ d_Mod_untilAt_62) (fun r62 e62 => ?_)
        subst e62
        refine mm_ifneB hx hb d_Mod_untilAt_65 (tgt := 70) (by decide) (fun c65 => ?_) (fun c65 => ?_)
        · refine lv_iinc (k := 4) (v := nI (j + 1)) (lv' := [(4, .int (nI (j + 1))), (0, .ref o), (1, .int (nI f)), (2, .int (nI i)), (3, .int (nI n))]) hx hb d_Mod_untilAt_70 hl rfl (inc1 _) (by decide) rfl (fun ls hl => ?_)
          refine lv_goto hx hb d_Mod_untilAt_73 (tgt := 3) (by decide) ?_
          exact ih3 (j + 1) _ ⟨(lv_sub hl [1, 2, 3, 4, 0] rfl), ⟨by omega, by omega⟩, (by rw [show np - (j + 1) = r by omega]; exact hv.trans (unV_s (by first | exact and_f1 c31 | exact and_f2 c47) c65))⟩ (by (try dsimp only); omega)
        · refine lv_iconst hx hb d_Mod_untilAt_68 ci_0 ?_
          exact mm_zrS false (by first | rfl | decide) hx hb hr hk d_Mod_untilAt_69 (by rw [hv, unV_f (by first | exact and_f1 c31 | exact and_f2 c47) c65])
      · refine lv_iconst hx hb d_Mod_untilAt_50 ci_1 ?_
        exact mm_zrS true (by first | rfl | decide) hx hb hr hk d_Mod_untilAt_51 (by rw [hv, unV_t c31 c47])
set_option maxHeartbeats 4000000 in
set_option maxRecDepth 100000 in
theorem c_Mod_existsAt (l : Launch) (G : mm_G) (o : Nat) (ad : Nat → Nat) (nf : Nat) (wt : Bool) (np : Nat) (kK kW kF kS kL kE tm pr ga : Nat → Nat) (ho : Nat → Int64) (pa : Nat → Bool) (fr rg re : Nat → Nat) (f i n : Nat) (hf : f < 12) (h1 : kF f < 12) (hW : kW f ≤ 2) (hi : i < 24) (hn : n < 64) : Met l y_Mod_existsAt [.code y_Mod_existsAt b_Mod_existsAt 7 (some .boolean)] { frames := 1, cells := 0, slots := 0, locals := 23 } (mm_Pre G [.ref o, .int (nI f), .int (nI i), .int (nI n)] (fun H => va_P G.1 cls_all (TW G o ad nf wt np kK kW kF kS kL kE tm pr ga ho pa fr rg re) H)) (vp_Si (fun r => r = bI (exV kW kF ho f i n 4))) 0 0 (fun _ => False) := by
  refine mm_of (by decide) (Nat.le_of_ble_eq_true rfl) ?_
  intro p e s m below meth c ls hx hb hr hk hml hown hnm hK hP hl
  have hl : lv_has ls 7 [(0, .ref o), (1, .int (nI f)), (2, .int (nI i)), (3, .int (nI n))] := hl
  refine lv_iconst hx hb d_Mod_existsAt_0 ci_2 ?_
  refine lv_aload_n hx hb d_Mod_existsAt_1 rfl (lv_at hl 0 rfl) ?_
  refine mm_get (v := .ref (ad 1)) hK hx hb hown lg_Mod_13 hP 0 rfl rfl d_Mod_existsAt_2 ?_
  refine lv_iload_n hx hb d_Mod_existsAt_5 rfl (lv_at hl 1 rfl) ?_
  refine mm_iald hK hx hb hP 2 rfl (by decide) (i := f) (by omega) d_Mod_existsAt_6 ?_
  refine lv_imul hx hb d_Mod_existsAt_7 ?_
  refine mm_ti (pk_mul _ _) ?_
  refine lv_istore (lv' := [(4, .int (nI (2 * (kW f)))), (0, .ref o), (1, .int (nI f)), (2, .int (nI i)), (3, .int (nI n))]) hx hb d_Mod_existsAt_8 hl (by decide) rfl (fun ls hl => ?_)
  refine lv_iconst hx hb d_Mod_existsAt_10 ci_0 ?_
  refine mm_ti (y := bI false) (by decide) ?_
  refine lv_istore (lv' := [(5, .int (bI false)), (4, .int (nI (2 * (kW f)))), (0, .ref o), (1, .int (nI f)), (2, .int (nI i)), (3, .int (nI n))]) hx hb d_Mod_existsAt_11 hl (by decide) rfl (fun ls hl => ?_)
  refine lv_iconst hx hb d_Mod_existsAt_13 ci_0 ?_
  refine lv_istore (lv' := [(6, .int (nI 0)), (5, .int (bI false)), (4, .int (nI (2 * (kW f)))), (0, .ref o), (1, .int (nI f)), (2, .int (nI i)), (3, .int (nI n))]) hx hb d_Mod_existsAt_14 hl (by decide) rfl (fun ls hl => ?_)
  refine mm_loopR (σ := (Nat) × (Bool)) (fun x ls => match x with | (v, b) => lv_has ls 7 [(0, .ref o), (1, .int (nI f)), (2, .int (nI i)), (3, .int (nI n)), (4, .int (nI (2 * (kW f)))), (5, .int (bI b)), (6, .int (nI v))] ∧ (v ≤ 4) ∧ (b = exV kW kF ho f i n v)) (fun x => match x with | (v, b) => 4 - v) ?_ (0, false) _ ⟨(lv_sub hl [3, 4, 5, 6, 2, 1, 0] rfl), (by decide), rfl⟩
  rintro ⟨v, b⟩ ls ⟨hl, hv, hb9⟩ ih16
  refine lv_iload hx hb d_Mod_existsAt_16 (lv_at hl 6 rfl) ?_
  refine lv_iconst hx hb d_Mod_existsAt_18 ci_4 ?_
  refine lv_icmp_ge hx hb d_Mod_existsAt_19 (tgt := 68) (by decide) (fun c19 => ?_) (fun c19 => ?_)
  · have c19 : v ≥ 4 := nb_get (by omega) (by omega) c19
    refine lv_iload hx hb d_Mod_existsAt_68 (lv_at hl 5 rfl) ?_
    exact mm_zrS b (by first | rfl | decide) hx hb hr hk d_Mod_existsAt_70 (by rw [hb9, show v = 4 by omega])
  · have c19 : v < 4 := nb_gef (by omega) (by omega) c19
    refine lv_iload hx hb d_Mod_existsAt_22 (lv_at hl 5 rfl) ?_
    refine mm_ifneB hx hb d_Mod_existsAt_24 (tgt := 55) (by decide) (fun c24 => ?_) (fun c24 => ?_)
    · refine lv_iconst hx hb d_Mod_existsAt_55 ci_1 ?_
      refine lv_goto hx hb d_Mod_existsAt_56 (tgt := 60) (by decide) ?_
      refine mm_ti (y := bI true) (by decide) ?_
      refine lv_istore (lv' := [(5, .int (bI true)), (0, .ref o), (1, .int (nI f)), (2, .int (nI i)), (3, .int (nI n)), (4, .int (nI (2 * (kW f)))), (6, .int (nI v))]) hx hb d_Mod_existsAt_60 hl (by decide) rfl (fun ls hl => ?_)
      refine lv_iinc (k := 6) (v := nI (v + 1)) (lv' := [(6, .int (nI (v + 1))), (5, .int (bI true)), (0, .ref o), (1, .int (nI f)), (2, .int (nI i)), (3, .int (nI n)), (4, .int (nI (2 * (kW f))))]) hx hb d_Mod_existsAt_62 hl rfl (inc1 _) (by decide) rfl (fun ls hl => ?_)
      refine lv_goto hx hb d_Mod_existsAt_65 (tgt := 16) (by decide) ?_
      exact ih16 ((v + 1), true) _ ⟨(lv_sub hl [2, 3, 4, 5, 6, 1, 0] rfl), (by omega), (by first | exact exV_t1 (hb9.symm.trans c24) | exact exV_t2 c52)⟩ (by (try dsimp only); omega)
    · refine lv_aload_n hx hb d_Mod_existsAt_27 rfl (lv_at hl 0 rfl) ?_
      refine lv_aload_n hx hb d_Mod_existsAt_28 rfl (lv_at hl 0 rfl) ?_
      refine mm_get (v := .ref (ad 2)) hK hx hb hown lg_Mod_16 hP 0 rfl rfl d_Mod_existsAt_29 ?_
      refine lv_iload_n hx hb d_Mod_existsAt_32 rfl (lv_at hl 1 rfl) ?_
      refine mm_iald hK hx hb hP 3 rfl (by decide) (i := f) (by omega) d_Mod_existsAt_33 ?_
      refine lv_iload_n hx hb d_Mod_existsAt_34 rfl (lv_at hl 2 rfl) ?_
      refine lv_iload_n hx hb d_Mod_existsAt_35 rfl (lv_at hl 3 rfl) ?_
      refine lv_iconst hx hb d_Mod_existsAt_36 ci_3 ?_
      refine lv_iload hx hb d_Mod_existsAt_37 (lv_at hl 4 rfl) ?_
      refine lv_ishl hx hb d_Mod_existsAt_39 ?_
      refine lv_iconst hx hb d_Mod_existsAt_40 ci_m1 ?_
      refine lv_ixor hx hb d_Mod_existsAt_41 ?_
      refine lv_iand hx hb d_Mod_existsAt_42 ?_
      refine lv_iload hx hb d_Mod_existsAt_43 (lv_at hl 6 rfl) ?_
      refine lv_iload hx hb d_Mod_existsAt_45 (lv_at hl 4 rfl) ?_
      refine lv_ishl hx hb d_Mod_existsAt_47 ?_
      refine lv_ior hx hb d_Mod_existsAt_48 ?_
      refine mm_ti (y := nI (rpN (kW f) v n)) (rp_lem _ hW _ (by omega) _ hn) ?_
      refine mm_si (mm_runV hK ⟨hx, hb, hml, hown⟩ lk_Mod_110 (c_Mod_at l G o ad nf wt np kK kW kF kS kL kE tm pr ga ho pa fr rg re (kF f) i (rpN (kW f) v n) (by omega) (by omega) (rp_lt _ hW _ (by omega) _ hn)) ⟨rfl, rfl, by decide, by decide⟩ (mm_rc hK hP 0 rfl rfl) hP rfl hl.1 rfl (Nat.le_of_ble_eq_true rfl) ⟨by decide, by decide⟩ d_Mod_existsAt_49) (fun r49 e49 => ?_)
      subst e49
      refine mm_ifeqB hx hb d_Mod_existsAt_52 (tgt := 59) (by decide) (fun c52 => ?_) (fun c52 => ?_)
      · refine lv_iconst hx hb d_Mod_existsAt_59 ci_0 ?_
        refine mm_ti (y := bI false) (by decide) ?_
        refine lv_istore (lv' := [(5, .int (bI false)), (0, .ref o), (1, .int (nI f)), (2, .int (nI i)), (3, .int (nI n)), (4, .int (nI (2 * (kW f)))), (6, .int (nI v))]) hx hb d_Mod_existsAt_60 hl (by decide) rfl (fun ls hl => ?_)
        refine lv_iinc (k := 6) (v := nI (v + 1)) (lv' := [(6, .int (nI (v + 1))), (5, .int (bI false)), (0, .ref o), (1, .int (nI f)), (2, .int (nI i)), (3, .int (nI n)), (4, .int (nI (2 * (kW f))))]) hx hb d_Mod_existsAt_62 hl rfl (inc1 _) (by decide) rfl (fun ls hl => ?_)
        refine lv_goto hx hb d_Mod_existsAt_65 (tgt := 16) (by decide) ?_
        exact ih16 ((v + 1), false) _ ⟨(lv_sub hl [2, 3, 4, 5, 6, 1, 0] rfl), (by omega), (exV_f (hb9.symm.trans c24) c52)⟩ (by (try dsimp only); omega)
      · refine lv_iconst hx hb d_Mod_existsAt_55 ci_1 ?_
        refine lv_goto hx hb d_Mod_existsAt_56 (tgt := 60) (by decide) ?_
        refine mm_ti (y := bI true) (by decide) ?_
        refine lv_istore (lv' := [(5, .int (bI true)), (0, .ref o), (1, .int (nI f)), (2, .int (nI i)), (3, .int (nI n)), (4, .int (nI (2 * (kW f)))), (6, .int (nI v))]) hx hb d_Mod_existsAt_60 hl (by decide) rfl (fun ls hl => ?_)
        refine lv_iinc (k := 6) (v := nI (v + 1)) (lv' := [(6, .int (nI (v + 1))), (5, .int (bI true)), (0, .ref o), (1, .int (nI f)), (2, .int (nI i)), (3, .int (nI n)), (4, .int (nI (2 * (kW f))))]) hx hb d_Mod_existsAt_62 hl rfl (inc1 _) (by decide) rfl (fun ls hl => ?_)
        refine lv_goto hx hb d_Mod_existsAt_65 (tgt := 16) (by decide) ?_
        exact ih16 ((v + 1), true) _ ⟨(lv_sub hl [2, 3, 4, 5, 6, 1, 0] rfl), (by omega), (by first | exact exV_t1 (hb9.symm.trans c24) | exact exV_t2 c52)⟩ (by (try dsimp only); omega)
set_option maxHeartbeats 4000000 in
set_option maxRecDepth 100000 in
theorem c_Mod_satisfies (l : Launch) (G : mm_G) (o : Nat) (ad : Nat → Nat) (nf : Nat) (wt : Bool) (np : Nat) (kK kW kF kS kL kE tm pr ga : Nat → Nat) (ho : Nat → Int64) (pa : Nat → Bool) (fr rg re : Nat → Nat) (f i n : Nat) (hF : WF nf kK kW kF kS kL kE) (hf : f < nf) (hi : i < np) (hn : n < 64) (hT : TL np tm) (hB : PB pr) : Met l y_Mod_satisfies [.code y_Mod_satisfies b_Mod_satisfies 6 (some .boolean)] { frames := 2, cells := 0, slots := 0, locals := 49 } (mm_Pre G [.ref o, .int (nI f), .int (nI i), .int (nI n)] (fun H => va_P G.1 cls_all (TW G o ad nf wt np kK kW kF kS kL kE tm pr ga ho pa fr rg re) H)) (vp_Si (fun r => r = bI (satB kK kW kF kS kL kE tm pr np ho f i n))) 0 0 (fun _ => False) := by
  refine mm_of (by decide) (Nat.le_of_ble_eq_true rfl) ?_
  intro p e s m below meth c ls hx hb hr hk hml hown hnm hK hP hl
  have hl : lv_has ls 6 [(0, .ref o), (1, .int (nI f)), (2, .int (nI i)), (3, .int (nI n))] := hl
  obtain ⟨w0, w1⟩ := hF
  obtain ⟨a1, a2, a3, a4, a5, a6⟩ := w1 f hf
  obtain ⟨t1, t2, t3⟩ := hT
  have b1 := t2 i hi
  refine lv_aload_n hx hb d_Mod_satisfies_0 rfl (lv_at hl 0 rfl) ?_
  refine mm_get (v := .ref (ad 2)) hK hx hb hown lg_Mod_16 hP 0 rfl rfl d_Mod_satisfies_1 ?_
  refine lv_iload_n hx hb d_Mod_satisfies_4 rfl (lv_at hl 1 rfl) ?_
  refine mm_iald hK hx hb hP 3 rfl (by decide) (i := f) (by omega) d_Mod_satisfies_5 ?_
  refine lv_istore (lv' := [(4, .int (nI (kF f))), (0, .ref o), (1, .int (nI f)), (2, .int (nI i)), (3, .int (nI n))]) hx hb d_Mod_satisfies_6 hl (by decide) rfl (fun ls hl => ?_)
  refine lv_aload_n hx hb d_Mod_satisfies_8 rfl (lv_at hl 1 rfl) ?_
  refine mm_get (v := .ref (ad 3)) hK hx hb hown lg_Mod_19 hP 0 rfl rfl d_Mod_satisfies_9 ?_
  refine lv_iload_n hx hb d_Mod_satisfies_12 rfl (lv_at hl 2 rfl) ?_
  refine mm_iald hK hx hb hP 4 rfl (by decide) (i := f) (by omega) d_Mod_satisfies_13 ?_
  refine lv_istore (lv' := [(5, .int (nI (kS f))), (4, .int (nI (kF f))), (0, .ref o), (1, .int (nI f)), (2, .int (nI i)), (3, .int (nI n))]) hx hb d_Mod_satisfies_14 hl (by decide) rfl (fun ls hl => ?_)
  refine lv_aload_n hx hb d_Mod_satisfies_16 rfl (lv_at hl 2 rfl) ?_
  refine mm_get (v := .ref (ad 0)) hK hx hb hown lg_Mod_7 hP 0 rfl rfl d_Mod_satisfies_17 ?_
  refine lv_iload_n hx hb d_Mod_satisfies_20 rfl (lv_at hl 3 rfl) ?_
  refine mm_iald hK hx hb hP 1 rfl (by decide) (i := f) (by omega) d_Mod_satisfies_21 ?_
  rcases (show kK f = 0 ∨ kK f = 1 ∨ kK f = 2 ∨ kK f = 3 ∨ kK f = 4 ∨ kK f = 5 ∨ kK f = 6 ∨ kK f = 7 ∨ kK f = 8 ∨ kK f = 9 by omega) with hc | hc | hc | hc | hc | hc | hc | hc | hc | hc
  · refine mm_ti (y := nI 0) (show nI (kK f) = nI 0 by rw [hc]) ?_
    refine lv_tableIn (off := 50) (tgt := 72) hx hb d_Mod_satisfies_22 (by decide) (by decide) (by decide) (by decide) ?_
    obtain ⟨q1, q2, q3, q4⟩ := a5 (by omega)
    have v1 := vl4 (n := n) q1
    have v2 := vl4 (n := n) q3
    have b9 := hB (24 * kW f + i) (by omega)
    refine lv_aload_n hx hb d_Mod_satisfies_72 rfl (lv_at hl 2 rfl) ?_
    refine mm_get (v := .ref (ad 7)) hK hx hb hown lg_Mod_31 hP 0 rfl rfl d_Mod_satisfies_73 ?_
    refine lv_bipush (v := nI 24) hx hb d_Mod_satisfies_76 (by decide) ?_
    refine lv_aload_n hx hb d_Mod_satisfies_78 rfl (lv_at hl 2 rfl) ?_
    refine mm_get (v := .ref (ad 1)) hK hx hb hown lg_Mod_13 hP 0 rfl rfl d_Mod_satisfies_79 ?_
    refine lv_iload_n hx hb d_Mod_satisfies_82 rfl (lv_at hl 3 rfl) ?_
    refine mm_iald hK hx hb hP 2 rfl (by decide) (i := f) (by omega) d_Mod_satisfies_83 ?_
    refine lv_imul hx hb d_Mod_satisfies_84 ?_
    refine mm_ti (pk_mul _ _) ?_
    refine lv_iload_n hx hb d_Mod_satisfies_85 rfl (lv_at hl 4 rfl) ?_
    refine lv_iadd hx hb d_Mod_satisfies_86 ?_
    refine mm_ti (nI_add _ _) ?_
    refine mm_iald hK hx hb hP 8 rfl (by decide) (i := (24 * (kW f)) + i) (by omega) d_Mod_satisfies_87 ?_
    refine lv_iload hx hb d_Mod_satisfies_88 (lv_at hl 1 rfl) ?_
    refine lv_iload_n hx hb d_Mod_satisfies_90 rfl (lv_at hl 5 rfl) ?_
    refine mm_si (mm_runS hK ⟨hx, hb, hml, hown⟩ lk_Mod_114 (c_Mod_value l G (kF f) n (by omega) (by omega) hn) ⟨rfl, rfl, by decide, by decide⟩ trivial rfl hl.1 rfl (Nat.le_of_ble_eq_true rfl) ⟨by decide, by decide⟩ d_Mod_satisfies_91) (fun r91 e91 => ?_)
    subst e91
    refine lv_iconst hx hb d_Mod_satisfies_94 ci_4 ?_
    refine lv_iload hx hb d_Mod_satisfies_95 (lv_at hl 0 rfl) ?_
    refine lv_iload_n hx hb d_Mod_satisfies_97 rfl (lv_at hl 5 rfl) ?_
    refine mm_si (mm_runS hK ⟨hx, hb, hml, hown⟩ lk_Mod_114 (c_Mod_value l G (kS f) n (by omega) (by omega) hn) ⟨rfl, rfl, by decide, by decide⟩ trivial rfl hl.1 rfl (Nat.le_of_ble_eq_true rfl) ⟨by decide, by decide⟩ d_Mod_satisfies_98) (fun r98 e98 => ?_)
    subst e98
    refine lv_imul hx hb d_Mod_satisfies_101 ?_
    refine mm_ti (pk_mul _ _) ?_
    refine lv_iadd hx hb d_Mod_satisfies_102 ?_
    refine mm_ti (nI_add _ _) ?_
    refine lv_ishr hx hb d_Mod_satisfies_103 ?_
    refine lv_iconst hx hb d_Mod_satisfies_104 ci_1 ?_
    refine lv_iand hx hb d_Mod_satisfies_105 ?_
    refine mm_ti (y := nI (pr (24 * kW f + i) / 2 ^ (vlN (kF f) n + 4 * vlN (kS f) n) % 2)) (pb_lem b9 (by omega)) ?_
    refine lv_iconst hx hb d_Mod_satisfies_106 ci_1 ?_
    refine lv_icmp_ne hx hb d_Mod_satisfies_107 (tgt := 114) (by decide) (fun c107 => ?_) (fun c107 => ?_)
    · have c107 : pr (24 * kW f + i) / 2 ^ (vlN (kF f) n + 4 * vlN (kS f) n) % 2 ≠ 1 := nb_net (by omega) (by omega) c107
      refine lv_iconst hx hb d_Mod_satisfies_114 ci_0 ?_
      exact mm_zrS false (by first | rfl | decide) hx hb hr hk d_Mod_satisfies_115 (by unfold satB; rw [hc]; exact bI_f (by omega))
    · have c107 : pr (24 * kW f + i) / 2 ^ (vlN (kF f) n + 4 * vlN (kS f) n) % 2 = 1 := nb_nef (by omega) (by omega) c107
      refine lv_iconst hx hb d_Mod_satisfies_110 ci_1 ?_
      refine lv_goto hx hb d_Mod_satisfies_111 (tgt := 115) (by decide) ?_
      exact mm_zrS true (by first | rfl | decide) hx hb hr hk d_Mod_satisfies_115 (by unfold satB; rw [hc]; exact bI_t (by omega))
  · refine mm_ti (y := nI 1) (show nI (kK f) = nI 1 by rw [hc]) ?_
    refine lv_tableIn (off := 94) (tgt := 116) hx hb d_Mod_satisfies_22 (by decide) (by decide) (by decide) (by decide) ?_
    obtain ⟨q1, q2, q3, q4⟩ := a5 (by omega)
    have v1 := vl4 (n := n) q1
    have v2 := vl4 (n := n) q3
    refine lv_iload hx hb d_Mod_satisfies_116 (lv_at hl 1 rfl) ?_
    refine lv_iload_n hx hb d_Mod_satisfies_118 rfl (lv_at hl 5 rfl) ?_
    refine mm_si (mm_runS hK ⟨hx, hb, hml, hown⟩ lk_Mod_114 (c_Mod_value l G (kF f) n (by omega) (by omega) hn) ⟨rfl, rfl, by decide, by decide⟩ trivial rfl hl.1 rfl (Nat.le_of_ble_eq_true rfl) ⟨by decide, by decide⟩ d_Mod_satisfies_119) (fun r119 e119 => ?_)
    subst e119
    refine lv_iload hx hb d_Mod_satisfies_122 (lv_at hl 0 rfl) ?_
    refine lv_iload_n hx hb d_Mod_satisfies_124 rfl (lv_at hl 5 rfl) ?_
    refine mm_si (mm_runS hK ⟨hx, hb, hml, hown⟩ lk_Mod_114 (c_Mod_value l G (kS f) n (by omega) (by omega) hn) ⟨rfl, rfl, by decide, by decide⟩ trivial rfl hl.1 rfl (Nat.le_of_ble_eq_true rfl) ⟨by decide, by decide⟩ d_Mod_satisfies_125) (fun r125 e125 => ?_)
    subst e125
    refine lv_icmp_ne hx hb d_Mod_satisfies_128 (tgt := 135) (by decide) (fun c128 => ?_) (fun c128 => ?_)
    · have c128 : vlN (kF f) n ≠ vlN (kS f) n := nb_net (by omega) (by omega) c128
      refine lv_iconst hx hb d_Mod_satisfies_135 ci_0 ?_
      exact mm_zrS false (by first | rfl | decide) hx hb hr hk d_Mod_satisfies_136 (by unfold satB; rw [hc]; exact bI_f (by omega))
    · have c128 : vlN (kF f) n = vlN (kS f) n := nb_nef (by omega) (by omega) c128
      refine lv_iconst hx hb d_Mod_satisfies_131 ci_1 ?_
      refine lv_goto hx hb d_Mod_satisfies_132 (tgt := 136) (by decide) ?_
      exact mm_zrS true (by first | rfl | decide) hx hb hr hk d_Mod_satisfies_136 (by unfold satB; rw [hc]; exact bI_t (by omega))
  · refine mm_ti (y := nI 2) (show nI (kK f) = nI 2 by rw [hc]) ?_
    refine lv_tableIn (off := 115) (tgt := 137) hx hb d_Mod_satisfies_22 (by decide) (by decide) (by decide) (by decide) ?_
    obtain ⟨q1, q2, q3, q4⟩ := a5 (by omega)
    have v1 := vl4 (n := n) q1
    have v2 := vl4 (n := n) q3
    refine lv_iload hx hb d_Mod_satisfies_137 (lv_at hl 1 rfl) ?_
    refine lv_iload_n hx hb d_Mod_satisfies_139 rfl (lv_at hl 5 rfl) ?_
    refine mm_si (mm_runS hK ⟨hx, hb, hml, hown⟩ lk_Mod_114 (c_Mod_value l G (kF f) n (by omega) (by omega) hn) ⟨rfl, rfl, by decide, by decide⟩ trivial rfl hl.1 rfl (Nat.le_of_ble_eq_true rfl) ⟨by decide, by decide⟩ d_Mod_satisfies_140) (fun r140 e140 => ?_)
    subst e140
    refine lv_iload hx hb d_Mod_satisfies_143 (lv_at hl 0 rfl) ?_
    refine lv_iload_n hx hb d_Mod_satisfies_145 rfl (lv_at hl 5 rfl) ?_
    refine mm_si (mm_runS hK ⟨hx, hb, hml, hown⟩ lk_Mod_114 (c_Mod_value l G (kS f) n (by omega) (by omega) hn) ⟨rfl, rfl, by decide, by decide⟩ trivial rfl hl.1 rfl (Nat.le_of_ble_eq_true rfl) ⟨by decide, by decide⟩ d_Mod_satisfies_146) (fun r146 e146 => ?_)
    subst e146
    refine lv_icmp_ge hx hb d_Mod_satisfies_149 (tgt := 156) (by decide) (fun c149 => ?_) (fun c149 => ?_)
    · have c149 : vlN (kF f) n ≥ vlN (kS f) n := nb_get (by omega) (by omega) c149
      refine lv_iconst hx hb d_Mod_satisfies_156 ci_0 ?_
      exact mm_zrS false (by first | rfl | decide) hx hb hr hk d_Mod_satisfies_157 (by unfold satB; rw [hc]; exact bI_f (by omega))
    · have c149 : vlN (kF f) n < vlN (kS f) n := nb_gef (by omega) (by omega) c149
      refine lv_iconst hx hb d_Mod_satisfies_152 ci_1 ?_
      refine lv_goto hx hb d_Mod_satisfies_153 (tgt := 157) (by decide) ?_
      exact mm_zrS true (by first | rfl | decide) hx hb hr hk d_Mod_satisfies_157 (by unfold satB; rw [hc]; exact bI_t (by omega))
  · refine mm_ti (y := nI 3) (show nI (kK f) = nI 3 by rw [hc]) ?_
    refine lv_tableIn (off := 136) (tgt := 158) hx hb d_Mod_satisfies_22 (by decide) (by decide) (by decide) (by decide) ?_
    obtain ⟨q1, q2⟩ := a6 (by omega)
    refine lv_aload_n hx hb d_Mod_satisfies_158 rfl (lv_at hl 2 rfl) ?_
    refine lv_iload hx hb d_Mod_satisfies_159 (lv_at hl 1 rfl) ?_
    refine lv_iload_n hx hb d_Mod_satisfies_161 rfl (lv_at hl 4 rfl) ?_
    refine lv_iload_n hx hb d_Mod_satisfies_162 rfl (lv_at hl 5 rfl) ?_
    refine mm_si (mm_runV hK ⟨hx, hb, hml, hown⟩ lk_Mod_110 (c_Mod_at l G o ad nf wt np kK kW kF kS kL kE tm pr ga ho pa fr rg re (kF f) i n (by omega) (by omega) hn) ⟨rfl, rfl, by decide, by decide⟩ (mm_rc hK hP 0 rfl rfl) hP rfl hl.1 rfl (Nat.le_of_ble_eq_true rfl) ⟨by decide, by decide⟩ d_Mod_satisfies_163) (fun r163 e163 => ?_)
    subst e163
    refine mm_ifneB hx hb d_Mod_satisfies_166 (tgt := 173) (by decide) (fun c166 => ?_) (fun c166 => ?_)
    · refine lv_iconst hx hb d_Mod_satisfies_173 ci_0 ?_
      exact mm_zrS false (by first | rfl | decide) hx hb hr hk d_Mod_satisfies_174 (by unfold satB; rw [hc]; simp [c166])
    · refine lv_iconst hx hb d_Mod_satisfies_169 ci_1 ?_
      refine lv_goto hx hb d_Mod_satisfies_170 (tgt := 174) (by decide) ?_
      exact mm_zrS true (by first | rfl | decide) hx hb hr hk d_Mod_satisfies_174 (by unfold satB; rw [hc]; simp [c166])
  · refine mm_ti (y := nI 4) (show nI (kK f) = nI 4 by rw [hc]) ?_
    refine lv_tableIn (off := 153) (tgt := 175) hx hb d_Mod_satisfies_22 (by decide) (by decide) (by decide) (by decide) ?_
    obtain ⟨q1, q2⟩ := a6 (by omega)
    refine lv_aload_n hx hb d_Mod_satisfies_175 rfl (lv_at hl 2 rfl) ?_
    refine lv_iload hx hb d_Mod_satisfies_176 (lv_at hl 1 rfl) ?_
    refine lv_iload_n hx hb d_Mod_satisfies_178 rfl (lv_at hl 4 rfl) ?_
    refine lv_iload_n hx hb d_Mod_satisfies_179 rfl (lv_at hl 5 rfl) ?_
    refine mm_si (mm_runV hK ⟨hx, hb, hml, hown⟩ lk_Mod_110 (c_Mod_at l G o ad nf wt np kK kW kF kS kL kE tm pr ga ho pa fr rg re (kF f) i n (by omega) (by omega) hn) ⟨rfl, rfl, by decide, by decide⟩ (mm_rc hK hP 0 rfl rfl) hP rfl hl.1 rfl (Nat.le_of_ble_eq_true rfl) ⟨by decide, by decide⟩ d_Mod_satisfies_180) (fun r180 e180 => ?_)
    subst e180
    refine mm_ifeqB hx hb d_Mod_satisfies_183 (tgt := 201) (by decide) (fun c183 => ?_) (fun c183 => ?_)
    · refine lv_iconst hx hb d_Mod_satisfies_201 ci_0 ?_
      exact mm_zrS false (by first | rfl | decide) hx hb hr hk d_Mod_satisfies_202 (by unfold satB; rw [hc]; simp [c183])
    · refine lv_aload_n hx hb d_Mod_satisfies_186 rfl (lv_at hl 2 rfl) ?_
      refine lv_iload hx hb d_Mod_satisfies_187 (lv_at hl 0 rfl) ?_
      refine lv_iload_n hx hb d_Mod_satisfies_189 rfl (lv_at hl 4 rfl) ?_
      refine lv_iload_n hx hb d_Mod_satisfies_190 rfl (lv_at hl 5 rfl) ?_
      refine mm_si (mm_runV hK ⟨hx, hb, hml, hown⟩ lk_Mod_110 (c_Mod_at l G o ad nf wt np kK kW kF kS kL kE tm pr ga ho pa fr rg re (kS f) i n (by omega) (by omega) hn) ⟨rfl, rfl, by decide, by decide⟩ (mm_rc hK hP 0 rfl rfl) hP rfl hl.1 rfl (Nat.le_of_ble_eq_true rfl) ⟨by decide, by decide⟩ d_Mod_satisfies_191) (fun r191 e191 => ?_)
      subst e191
      refine mm_ifeqB hx hb d_Mod_satisfies_194 (tgt := 201) (by decide) (fun c194 => ?_) (fun c194 => ?_)
      · refine lv_iconst hx hb d_Mod_satisfies_201 ci_0 ?_
        exact mm_zrS false (by first | rfl | decide) hx hb hr hk d_Mod_satisfies_202 (by unfold satB; rw [hc]; simp [c183, c194])
      · refine lv_iconst hx hb d_Mod_satisfies_197 ci_1 ?_
        refine lv_goto hx hb d_Mod_satisfies_198 (tgt := 202) (by decide) ?_
        exact mm_zrS true (by first | rfl | decide) hx hb hr hk d_Mod_satisfies_202 (by unfold satB; rw [hc]; simp [c183, c194])
  · refine mm_ti (y := nI 5) (show nI (kK f) = nI 5 by rw [hc]) ?_
    refine lv_tableIn (off := 181) (tgt := 203) hx hb d_Mod_satisfies_22 (by decide) (by decide) (by decide) (by decide) ?_
    obtain ⟨q1, q2⟩ := a6 (by omega)
    refine lv_aload_n hx hb d_Mod_satisfies_203 rfl (lv_at hl 2 rfl) ?_
    refine lv_iload hx hb d_Mod_satisfies_204 (lv_at hl 1 rfl) ?_
    refine lv_iload_n hx hb d_Mod_satisfies_206 rfl (lv_at hl 4 rfl) ?_
    refine lv_iload_n hx hb d_Mod_satisfies_207 rfl (lv_at hl 5 rfl) ?_
    refine mm_si (mm_runV hK ⟨hx, hb, hml, hown⟩ lk_Mod_110 (c_Mod_at l G o ad nf wt np kK kW kF kS kL kE tm pr ga ho pa fr rg re (kF f) i n (by omega) (by omega) hn) ⟨rfl, rfl, by decide, by decide⟩ (mm_rc hK hP 0 rfl rfl) hP rfl hl.1 rfl (Nat.le_of_ble_eq_true rfl) ⟨by decide, by decide⟩ d_Mod_satisfies_208) (fun r208 e208 => ?_)
    subst e208
    refine mm_ifneB hx hb d_Mod_satisfies_211 (tgt := 225) (by decide) (fun c211 => ?_) (fun c211 => ?_)
    · refine lv_iconst hx hb d_Mod_satisfies_225 ci_1 ?_
      refine lv_goto hx hb d_Mod_satisfies_226 (tgt := 230) (by decide) ?_
      exact mm_zrS true (by first | rfl | decide) hx hb hr hk d_Mod_satisfies_230 (by unfold satB; rw [hc]; simp [c211])
    · refine lv_aload_n hx hb d_Mod_satisfies_214 rfl (lv_at hl 2 rfl) ?_
      refine lv_iload hx hb d_Mod_satisfies_215 (lv_at hl 0 rfl) ?_
      refine lv_iload_n hx hb d_Mod_satisfies_217 rfl (lv_at hl 4 rfl) ?_
      refine lv_iload_n hx hb d_Mod_satisfies_218 rfl (lv_at hl 5 rfl) ?_
      refine mm_si (mm_runV hK ⟨hx, hb, hml, hown⟩ lk_Mod_110 (c_Mod_at l G o ad nf wt np kK kW kF kS kL kE tm pr ga ho pa fr rg re (kS f) i n (by omega) (by omega) hn) ⟨rfl, rfl, by decide, by decide⟩ (mm_rc hK hP 0 rfl rfl) hP rfl hl.1 rfl (Nat.le_of_ble_eq_true rfl) ⟨by decide, by decide⟩ d_Mod_satisfies_219) (fun r219 e219 => ?_)
      subst e219
      refine mm_ifeqB hx hb d_Mod_satisfies_222 (tgt := 229) (by decide) (fun c222 => ?_) (fun c222 => ?_)
      · refine lv_iconst hx hb d_Mod_satisfies_229 ci_0 ?_
        exact mm_zrS false (by first | rfl | decide) hx hb hr hk d_Mod_satisfies_230 (by unfold satB; rw [hc]; simp [c211, c222])
      · refine lv_iconst hx hb d_Mod_satisfies_225 ci_1 ?_
        refine lv_goto hx hb d_Mod_satisfies_226 (tgt := 230) (by decide) ?_
        exact mm_zrS true (by first | rfl | decide) hx hb hr hk d_Mod_satisfies_230 (by unfold satB; rw [hc]; simp [c211, c222])
  · refine mm_ti (y := nI 6) (show nI (kK f) = nI 6 by rw [hc]) ?_
    refine lv_tableIn (off := 209) (tgt := 231) hx hb d_Mod_satisfies_22 (by decide) (by decide) (by decide) (by decide) ?_
    obtain ⟨q1, q2⟩ := a6 (by omega)
    refine lv_aload_n hx hb d_Mod_satisfies_231 rfl (lv_at hl 2 rfl) ?_
    refine lv_iload_n hx hb d_Mod_satisfies_232 rfl (lv_at hl 3 rfl) ?_
    refine lv_iload_n hx hb d_Mod_satisfies_233 rfl (lv_at hl 4 rfl) ?_
    refine lv_iload_n hx hb d_Mod_satisfies_234 rfl (lv_at hl 5 rfl) ?_
    refine mm_si (mm_runV hK ⟨hx, hb, hml, hown⟩ lk_Mod_118 (c_Mod_existsAt l G o ad nf wt np kK kW kF kS kL kE tm pr ga ho pa fr rg re f i n (by omega) (by omega) (by omega) (by omega) hn) ⟨rfl, rfl, by decide, by decide⟩ (mm_rc hK hP 0 rfl rfl) hP rfl hl.1 rfl (Nat.le_of_ble_eq_true rfl) ⟨by decide, by decide⟩ d_Mod_satisfies_235) (fun r235 e235 => ?_)
    subst e235
    exact mm_zrS (exV kW kF ho f i n 4) (by first | rfl | decide) hx hb hr hk d_Mod_satisfies_238 (by unfold satB; rw [hc]; rfl)
  · refine mm_ti (y := nI 7) (show nI (kK f) = nI 7 by rw [hc]) ?_
    refine lv_tableIn (off := 217) (tgt := 239) hx hb d_Mod_satisfies_22 (by decide) (by decide) (by decide) (by decide) ?_
    obtain ⟨q1, q2⟩ := a6 (by omega)
    refine lv_iload_n hx hb d_Mod_satisfies_239 rfl (lv_at hl 4 rfl) ?_
    refine lv_if_le hx hb d_Mod_satisfies_240 (tgt := 283) (by decide) (fun c240 => ?_) (fun c240 => ?_)
    · have c240 : i ≤ 0 := nb_zlet (by omega) c240
      refine lv_iconst hx hb d_Mod_satisfies_283 ci_0 ?_
      exact mm_zrS false (by first | rfl | decide) hx hb hr hk d_Mod_satisfies_284 (by unfold satB; rw [hc]; simp [show ¬ 0 < i by omega])
    · have c240 : i > 0 := nb_zlef (by omega) c240
      refine lv_aload_n hx hb d_Mod_satisfies_243 rfl (lv_at hl 2 rfl) ?_
      refine lv_iload_n hx hb d_Mod_satisfies_244 rfl (lv_at hl 3 rfl) ?_
      refine lv_aload_n hx hb d_Mod_satisfies_245 rfl (lv_at hl 2 rfl) ?_
      refine mm_get (v := .ref (ad 6)) hK hx hb hown lg_Mod_28 hP 0 rfl rfl d_Mod_satisfies_246 ?_
      refine lv_iload_n hx hb d_Mod_satisfies_249 rfl (lv_at hl 4 rfl) ?_
      refine mm_iald hK hx hb hP 7 rfl (by decide) (i := i) (by omega) d_Mod_satisfies_250 ?_
      refine lv_aload_n hx hb d_Mod_satisfies_251 rfl (lv_at hl 2 rfl) ?_
      refine mm_get (v := .ref (ad 6)) hK hx hb hown lg_Mod_28 hP 0 rfl rfl d_Mod_satisfies_252 ?_
      refine lv_iload_n hx hb d_Mod_satisfies_255 rfl (lv_at hl 4 rfl) ?_
      refine lv_iconst hx hb d_Mod_satisfies_256 ci_1 ?_
      refine lv_isub hx hb d_Mod_satisfies_257 ?_
      refine mm_ti (y := nI (i - 1)) (pk_sub (by omega)) ?_
      refine mm_iald hK hx hb hP 7 rfl (by decide) (i := i - 1) (by omega) d_Mod_satisfies_258 ?_
      have b2 := t3 (i - 1) i (by omega) hi
      refine lv_isub hx hb d_Mod_satisfies_259 ?_
      refine mm_ti (y := nI (tm i - tm (i - 1))) (pk_sub b2) ?_
      refine mm_si (mm_runV hK ⟨hx, hb, hml, hown⟩ lk_Mod_106 (c_Mod_lies l G o ad nf wt np kK kW kF kS kL kE tm pr ga ho pa fr rg re f (tm i - tm (i - 1)) (by omega) (by omega) (by omega) (by omega)) ⟨rfl, rfl, by decide, by decide⟩ (mm_rc hK hP 0 rfl rfl) hP rfl hl.1 rfl (Nat.le_of_ble_eq_true rfl) ⟨by decide, by decide⟩ d_Mod_satisfies_260) (fun r260 e260 => ?_)
      subst e260
      refine mm_ifeqB hx hb d_Mod_satisfies_263 (tgt := 283) (by decide) (fun c263 => ?_) (fun c263 => ?_)
      · refine lv_iconst hx hb d_Mod_satisfies_283 ci_0 ?_
        exact mm_zrS false (by first | rfl | decide) hx hb hr hk d_Mod_satisfies_284 (by unfold satB; rw [hc]; simp [show 0 < i from c240, c263])
      · refine lv_aload_n hx hb d_Mod_satisfies_266 rfl (lv_at hl 2 rfl) ?_
        refine lv_iload hx hb d_Mod_satisfies_267 (lv_at hl 1 rfl) ?_
        refine lv_iload_n hx hb d_Mod_satisfies_269 rfl (lv_at hl 4 rfl) ?_
        refine lv_iconst hx hb d_Mod_satisfies_270 ci_1 ?_
        refine lv_isub hx hb d_Mod_satisfies_271 ?_
        refine mm_ti (y := nI (i - 1)) (pk_sub (by omega)) ?_
        refine lv_iload_n hx hb d_Mod_satisfies_272 rfl (lv_at hl 5 rfl) ?_
        refine mm_si (mm_runV hK ⟨hx, hb, hml, hown⟩ lk_Mod_110 (c_Mod_at l G o ad nf wt np kK kW kF kS kL kE tm pr ga ho pa fr rg re (kF f) (i - 1) n (by omega) (by omega) hn) ⟨rfl, rfl, by decide, by decide⟩ (mm_rc hK hP 0 rfl rfl) hP rfl hl.1 rfl (Nat.le_of_ble_eq_true rfl) ⟨by decide, by decide⟩ d_Mod_satisfies_273) (fun r273 e273 => ?_)
        subst e273
        refine mm_ifeqB hx hb d_Mod_satisfies_276 (tgt := 283) (by decide) (fun c276 => ?_) (fun c276 => ?_)
        · refine lv_iconst hx hb d_Mod_satisfies_283 ci_0 ?_
          exact mm_zrS false (by first | rfl | decide) hx hb hr hk d_Mod_satisfies_284 (by unfold satB; rw [hc]; simp [show 0 < i from c240, c263, c276])
        · refine lv_iconst hx hb d_Mod_satisfies_279 ci_1 ?_
          refine lv_goto hx hb d_Mod_satisfies_280 (tgt := 284) (by decide) ?_
          exact mm_zrS true (by first | rfl | decide) hx hb hr hk d_Mod_satisfies_284 (by unfold satB; rw [hc]; simp [show 0 < i from c240, c263, c276])
  · refine mm_ti (y := nI 8) (show nI (kK f) = nI 8 by rw [hc]) ?_
    refine lv_tableIn (off := 263) (tgt := 285) hx hb d_Mod_satisfies_22 (by decide) (by decide) (by decide) (by decide) ?_
    obtain ⟨q1, q2⟩ := a6 (by omega)
    refine lv_aload_n hx hb d_Mod_satisfies_285 rfl (lv_at hl 2 rfl) ?_
    refine lv_iload_n hx hb d_Mod_satisfies_286 rfl (lv_at hl 3 rfl) ?_
    refine lv_iload_n hx hb d_Mod_satisfies_287 rfl (lv_at hl 4 rfl) ?_
    refine lv_iload_n hx hb d_Mod_satisfies_288 rfl (lv_at hl 5 rfl) ?_
    refine mm_si (mm_runV hK ⟨hx, hb, hml, hown⟩ lk_Mod_121 (c_Mod_sinceAt l G o ad nf wt np kK kW kF kS kL kE tm pr ga ho pa fr rg re f i n (by omega) (by omega) (by omega) (by omega) (by omega) hi hn ⟨t1, t2, t3⟩) ⟨rfl, rfl, by decide, by decide⟩ (mm_rc hK hP 0 rfl rfl) hP rfl hl.1 rfl (Nat.le_of_ble_eq_true rfl) ⟨by decide, by decide⟩ d_Mod_satisfies_289) (fun r289 e289 => ?_)
    subst e289
    exact mm_zrS (snV kF kS kL kE tm ho f i n (i + 1)) (by first | rfl | decide) hx hb hr hk d_Mod_satisfies_292 (by unfold satB; rw [hc]; rfl)
  · refine mm_ti (y := nI 9) (show nI (kK f) = nI 9 by rw [hc]) ?_
    refine lv_tableOut (tgt := 293) hx hb d_Mod_satisfies_22 (Or.inr (by decide)) (by decide) ?_
    obtain ⟨q1, q2⟩ := a6 (by omega)
    refine lv_aload_n hx hb d_Mod_satisfies_293 rfl (lv_at hl 2 rfl) ?_
    refine lv_iload_n hx hb d_Mod_satisfies_294 rfl (lv_at hl 3 rfl) ?_
    refine lv_iload_n hx hb d_Mod_satisfies_295 rfl (lv_at hl 4 rfl) ?_
    refine lv_iload_n hx hb d_Mod_satisfies_296 rfl (lv_at hl 5 rfl) ?_
    refine mm_si (mm_runV hK ⟨hx, hb, hml, hown⟩ lk_Mod_124 (c_Mod_untilAt l G o ad nf wt np kK kW kF kS kL kE tm pr ga ho pa fr rg re f i n (by omega) (by omega) (by omega) (by omega) (by omega) hi hn ⟨t1, t2, t3⟩) ⟨rfl, rfl, by decide, by decide⟩ (mm_rc hK hP 0 rfl rfl) hP rfl hl.1 rfl (Nat.le_of_ble_eq_true rfl) ⟨by decide, by decide⟩ d_Mod_satisfies_297) (fun r297 e297 => ?_)
    subst e297
    exact mm_zrS (unV kF kS kL kE tm ho f i n (np - i) i) (by first | rfl | decide) hx hb hr hk d_Mod_satisfies_300 (by unfold satB; rw [hc]; rfl)
