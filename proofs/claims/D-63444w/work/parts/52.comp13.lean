set_option maxHeartbeats 4000000 in
set_option maxRecDepth 100000 in
theorem c_Mon_place (l : Launch) (G : mm_G) {A : Nat → Prop} (Z : Nat × Nat) (L : List Nat) (f : Nat → va_E) (xs : Nat → Nat) (n : Nat) (wt : Bool) (np : Nat) (tm pv : Nat → Nat) (q ad : Nat → Nat → Nat) (CL : Nat → Bool) (ss : Nat → Nat → Nat → Int64) (rh : Nat → Nat × Nat) (hC : CI G Z xs n wt np tm pv q ad CL ss rh L f) (hn12 : n ≤ 12) (a1 : Int32) (ph : Nat → Nat → Nat) (hW : WF n (q 0) (q 1) (q 2) (q 3) (q 4) (q 5)) (hT0 : TL np tm) (hpv : ∀ r, r < 3 → pv r < 65536) (hO : ∀ j, j < n → CV np tm ph q ss j ∧ RV np tm q j) : Met l y_Mon_place [.code y_Mon_place b_Mon_place 5 (some .int)] { frames := 3, cells := 1, slots := 4, locals := 70 } (mn_Pre G A Z [.ref (xs 0), .int a1] (fun H => PO G A L f H ∧ (∀ q, H.size ≤ q → A q))) (mm_Qi (fun r H => (plP wt np tm a1 → r = nI np ∧ ∃ (L1 : List Nat) (f1 : Nat → va_E) (q1 : Nat → Nat → Nat) (ss1 : Nat → Nat → Nat → Int64) (pv1 : Nat → Nat) (rh1 : Nat → Nat × Nat), PO G A L1 f1 H ∧ (∀ j, j < 3 → pv1 j = 0) ∧ (∀ c, c ≠ 8 → c ≠ 9 → q1 c = q c) ∧ CI G Z xs n wt (np + 1) (va_up tm np (cN a1)) pv1 q1 ad CL ss1 rh1 L1 f1 ∧ ∀ j, j < n → CV (np + 1) (va_up tm np (cN a1)) (fun r => va_up (ph r) np (pv r)) q1 ss1 j ∧ RV (np + 1) (va_up tm np (cN a1)) q1 j) ∧ (¬ plP wt np tm a1 → r = -1 ∧ PO G A L f H)) A) 1 4 A := by
  refine mn_of (by decide) (Nat.le_of_ble_eq_true rfl) ?_
  intro p e s m below meth c ls hx hb hr hk hml hown hnm hK hT h0 hl
  have hl : lv_has ls 5 [(0, .ref (xs 0)), (1, .int a1)] := hl
  obtain ⟨⟨hP, hL⟩, hA⟩ := h0
  have hS : va_S A s.heap s.heap [] := va_S.rf
  have hX : PLc L f (xs 0) (.inr (10, [.ref (xs 1), .ref (xs 2), .int (bI wt)])) := hC.1
  obtain ⟨hG2, hG3, hG4⟩ := hC.2.2.1
  have hn24 := hT0.1
  refine lv_aload_n hx hb d_Mon_place_0 rfl (lv_at hl 0 rfl) ?_
  refine mm_get (v := .ref (xs 2)) hK hx hb hown lg_Mon_25 (pl_1 hP hX) 0 rfl rfl d_Mon_place_1 ?_
  refine mm_get (v := .int (nI np)) hK hx hb hown lg_Mon_136 (pl_1 hP hG2) 0 rfl rfl d_Mon_place_4 ?_
  refine lv_istore_n (lv' := [(2, .int (nI np)), (0, .ref (xs 0)), (1, .int a1)]) hx hb d_Mon_place_7 rfl hl (by decide) rfl (fun ls hl => ?_)
  refine lv_aload_n hx hb d_Mon_place_8 rfl (lv_at hl 1 rfl) ?_
  refine mm_get (v := .int (bI wt)) hK hx hb hown lg_Mon_39 (pl_1 hP hX) 0 rfl rfl d_Mon_place_9 ?_
  refine mm_ifeqB hx hb d_Mon_place_12 (tgt := 50) (by decide) (fun c12 => ?_) (fun c12 => ?_)
  · refine lv_iconst hx hb d_Mon_place_50 ci_m1 ?_
    refine W.widen (k := 1) (n := 4) (by decide) (by decide) ?_
    exact mm_irQ hx hb hr hk hS d_Mon_place_51 ⟨fun h => absurd h (by intro h; first | exact absurd (c12.symm.trans h.1) (by decide) | (obtain ⟨h1, h2, h3, h4⟩ := h; omega)), fun _ => ⟨rfl, hP, hL⟩⟩
  · refine lv_iload_n hx hb d_Mon_place_15 rfl (lv_at hl 2 rfl) ?_
    refine lv_if_lt hx hb d_Mon_place_16 (tgt := 50) (by decide) (fun c16 => ?_) (fun c16 => ?_)
    · rw [Int32.lt_iff_toInt_lt, Int32.toInt_zero] at c16
      refine lv_iconst hx hb d_Mon_place_50 ci_m1 ?_
      refine W.widen (k := 1) (n := 4) (by decide) (by decide) ?_
      exact mm_irQ hx hb hr hk hS d_Mon_place_51 ⟨fun h => absurd h (by intro h; first | exact absurd (c12.symm.trans h.1) (by decide) | (obtain ⟨h1, h2, h3, h4⟩ := h; omega)), fun _ => ⟨rfl, hP, hL⟩⟩
    · rw [Int32.lt_iff_toInt_lt, Int32.toInt_zero] at c16
      refine lv_iload_n hx hb d_Mon_place_19 rfl (lv_at hl 2 rfl) ?_
      refine lv_ldc (v := 1000000) hx hb hown (hK.w kw_575) d_Mon_place_20 ?_
      refine mm_ti (y := nI 1000000) (by decide) ?_
      refine lv_icmp_gt hx hb d_Mon_place_22 (tgt := 50) (by decide) (fun c22 => ?_) (fun c22 => ?_)
      · rw [Int32.lt_iff_toInt_lt, nI_toInt (n := 1000000) (by omega)] at c22
        refine lv_iconst hx hb d_Mon_place_50 ci_m1 ?_
        refine W.widen (k := 1) (n := 4) (by decide) (by decide) ?_
        exact mm_irQ hx hb hr hk hS d_Mon_place_51 ⟨fun h => absurd h (by intro h; first | exact absurd (c12.symm.trans h.1) (by decide) | (obtain ⟨h1, h2, h3, h4⟩ := h; omega)), fun _ => ⟨rfl, hP, hL⟩⟩
      · rw [Int32.lt_iff_toInt_lt, nI_toInt (n := 1000000) (by omega)] at c22
        refine lv_iload_n hx hb d_Mon_place_25 rfl (lv_at hl 0 rfl) ?_
        refine lv_bipush (v := nI 24) hx hb d_Mon_place_26 (by decide) ?_
        refine lv_icmp_ge hx hb d_Mon_place_28 (tgt := 50) (by decide) (fun c28 => ?_) (fun c28 => ?_)
        · have c28 : np ≥ 24 := nb_get (by omega) (by omega) c28
          refine lv_iconst hx hb d_Mon_place_50 ci_m1 ?_
          refine W.widen (k := 1) (n := 4) (by decide) (by decide) ?_
          exact mm_irQ hx hb hr hk hS d_Mon_place_51 ⟨fun h => absurd h (by intro h; first | exact absurd (c12.symm.trans h.1) (by decide) | (obtain ⟨h1, h2, h3, h4⟩ := h; omega)), fun _ => ⟨rfl, hP, hL⟩⟩
        · have c28 : np < 24 := nb_gef (by omega) (by omega) c28
          refine lv_iload_n hx hb d_Mon_place_31 rfl (lv_at hl 0 rfl) ?_
          refine lv_if_le hx hb d_Mon_place_32 (tgt := 52) (by decide) (fun c32 => ?_) (fun c32 => ?_)
          · have c32 : np ≤ 0 := nb_zlet (by omega) c32
            have hrt : 0 ≤ a1.toInt ∧ a1.toInt ≤ ((1000000 : Nat) : Int) := by omega
            have htl : 0 < np → ((tm (np - 1) : Nat) : Int) ≤ a1.toInt := by intro h; omega
            have hpl : plP wt np tm a1 := ⟨c12, hrt, c28, htl⟩
            obtain ⟨t, et, ht2⟩ := ra_nat hrt (by decide)
            subst et
            rw [nI_toInt (n := t) (by omega)] at htl
            have hT1 : TL (np + 1) (va_up tm np t) := TL_up hT0 c28 ht2 (fun h => by have := htl h; omega)
            have htm : ∀ i, i < np → tm i = (va_up tm np t) i := fun i hi => (va_up_ne _ _ (by omega)).symm
            have hph : ∀ r i, i < np → ph r i = (fun r => va_up (ph r) np (pv r)) r i := fun r i hi => (va_up_ne _ _ (by omega)).symm
            obtain ⟨_, _, x2, x3, x4, _⟩ := hC.2.2.2.2.1
            refine lv_aload_n hx hb d_Mon_place_52 rfl (lv_at hl 1 rfl) ?_
            refine mm_get (v := .ref (xs 2)) hK hx hb hown lg_Mon_25 (pl_1 hP hX) 0 rfl rfl d_Mon_place_53 ?_
            refine mm_get (v := .ref (xs 3)) hK hx hb hown lg_Mon_140 (pl_1 hP hG2) 0 rfl rfl d_Mon_place_56 ?_
            refine lv_iload_n hx hb d_Mon_place_59 rfl (lv_at hl 0 rfl) ?_
            refine lv_iload_n hx hb d_Mon_place_60 rfl (lv_at hl 2 rfl) ?_
            refine p_iastN hK hx hb hP hL hS hG3 (by decide) (i := np) (x := t) (by omega) d_Mon_place_61 (fun H locs hP hS => ?_)
            obtain ⟨f61, hP, hC⟩ : ∃ f9, va_P G.1 cls_all (va_pl L f9) H ∧ CI G Z xs n wt np (va_up tm np t) pv q ad CL ss rh L f9 := ⟨_, hP, CI_log hC hn12 (fun a e h hB => ⟨h.1, (va_up_ne _ _ (fun e => hB (Or.inr (Or.inl e)))).trans h.2⟩) ⟨⟨hG2.1, (va_up_ne _ _ (ne_rh x2 x3 (by simp))).trans hG2.2⟩, ⟨hG3.1, va_up_self _ _ _⟩, ⟨hG4.1, (va_up_ne _ _ (ne_rh x4 x3 (by simp))).trans hG4.2⟩⟩⟩
            have hX : PLc L f61 (xs 0) (.inr (10, [.ref (xs 1), .ref (xs 2), .int (bI wt)])) := hC.1
            obtain ⟨hG2, hG3, hG4⟩ := hC.2.2.1
            refine lv_aload_n hx hb d_Mon_place_62 rfl (lv_at hl 1 rfl) ?_
            refine mm_get (v := .ref (xs 2)) hK hx hb hown lg_Mon_25 (pl_1 hP hX) 0 rfl rfl d_Mon_place_63 ?_
            refine lv_dup hx hb d_Mon_place_66 rfl ?_
            refine mm_get (v := .int (nI np)) hK hx hb hown lg_Mon_136 (pl_1 hP hG2) 0 rfl rfl d_Mon_place_67 ?_
            refine lv_iconst hx hb d_Mon_place_70 ci_1 ?_
            refine lv_iadd hx hb d_Mon_place_71 ?_
            refine mm_ti (nI_add _ _) ?_
            refine p_put hK hx hb hown lp_Mon_136 hP hL hS hG2 (v := .int (nI (np + 1))) rfl rfl (Nat.le_of_ble_eq_true rfl) d_Mon_place_72 (fun H locs hP hS => ?_)
            obtain ⟨f72, hP, hC⟩ : ∃ f9, va_P G.1 cls_all (va_pl L f9) H ∧ CI G Z xs n wt (np + 1) (va_up tm np t) pv q ad CL ss rh L f9 := ⟨_, hP, CI_log hC hn12 (fun a e h hB => ⟨h.1, (va_up_ne _ _ (fun e => hB (Or.inl e))).trans h.2⟩) ⟨⟨hG2.1, va_up_self _ _ _⟩, ⟨hG3.1, (va_up_ne _ _ (ne_rh x3 x2 (by simp))).trans hG3.2⟩, ⟨hG4.1, (va_up_ne _ _ (ne_rh x4 x2 (by simp))).trans hG4.2⟩⟩⟩
            have hX : PLc L f72 (xs 0) (.inr (10, [.ref (xs 1), .ref (xs 2), .int (bI wt)])) := hC.1
            refine lv_aload_n hx hb d_Mon_place_75 rfl (lv_at hl 1 rfl) ?_
            refine mm_get (v := .ref (xs 1)) hK hx hb hown lg_Mon_18 (pl_1 hP hX) 0 rfl rfl d_Mon_place_76 ?_
            obtain ⟨v0, mcn, hla⟩ := hC.2.1.lam
            have hFc := wF (w := ([] : va_W)) hL hA hS.1 (fun q h => absurd h List.not_mem_nil)
            refine mm_qq (mm_runV hK ⟨hx, hb, hml, hown⟩ lk_Mon_144 (c_AL_iterator l G (xs 1) v0 (.int (nI n)) mcn (fa_1 (nA_w (w := ([] : va_W)) (sz := H.size) (fun q h => absurd h List.not_mem_nil) (pl_lt hP hla.1)))) ⟨rfl, rfl, by decide, by decide⟩ (mm_rc hK (pl_1 hP hla) 0 rfl rfl) ⟨fun q h => Or.inr h, pl_1 hP hla⟩ rfl hl.1 rfl (Nat.le_of_ble_eq_true rfl) ⟨by decide, by decide⟩ d_Mon_place_79) hS hFc (fun r79 H1 locs e79 hz1 hk1 hS => ?_)
            obtain ⟨it, rfl, hP1, hD1⟩ := e79
            obtain ⟨L1, f79, hP, hL, k3, _, k5, _⟩ := pl_join (wc := []) (wo := []) (wn := [(it, (.inr (12, [.int (nI 0), .int (-1), .int mcn, .ref (xs 1)]) : va_E))]) hP hL hk1 hFc hP1 hD1 rfl
            obtain ⟨H, rfl⟩ : ∃ H9, H9 = H1 := ⟨_, rfl⟩
            have hE79 : EXT L f72 L1 f79 := fun a ha => k3 a _ ⟨ha, rfl⟩ (fun q h => absurd h List.not_mem_nil)
            obtain ⟨hit, hitn⟩ := k5 _ (List.mem_singleton.mpr rfl)
            have hla := hla.ext hE79
            obtain ⟨rh1, hrit, hC⟩ : ∃ rh1 : Nat → Nat × Nat, rh1 it = (13, 0) ∧ CI G Z xs n wt (np + 1) (va_up tm np t) pv q ad CL ss rh1 L1 f79 := ⟨va_up rh it (13, 0), va_up_self _ _ _, CI_ext (CI_rh hC hitn) hE79⟩
            refine W.widen (k := 1) (n := 4) (by decide) (by decide) ?_
            refine lv_astore_n (lv' := [(3, .ref it), (2, .int (nI np)), (0, .ref (xs 0)), (1, .int (nI t))]) hx hb d_Mon_place_82 rfl hl (by decide) rfl (fun ls hl => ?_)
            refine mm_loop (σ := Nat × (Nat → va_E) × (Nat → Nat → Nat) × (Nat → Nat → Nat → Int64)) (fun x ls H locs => match x with | (k, f1, q1, ss1) => lv_has ls 5 [(3, .ref it), (2, .int (nI np)), (1, .int (nI t)), (0, .ref (xs 0))] ∧ va_P G.1 cls_all (va_pl L1 f1) H ∧ va_S A s.heap H locs ∧ CI G Z xs n wt (np + 1) (va_up tm np t) pv q1 ad CL ss1 rh1 L1 f1 ∧ (∃ i1, PLc L1 f1 it (.inr (12, [.int (nI k), i1, .int mcn, .ref (xs 1)]))) ∧ (∃ v0, PLc L1 f1 (xs 1) (.inr (11, [v0, .int (nI n), .int mcn]))) ∧ PI n np (va_up tm np t) (fun r => va_up (ph r) np (pv r)) q ss k q1 ss1) (fun x => match x with | (k, _, _, _) => n - k) ?_ (0, f79, q, ss) _ _ _ ⟨lv_sub hl [0, 1, 3, 2] rfl, hP, hS, hC, ⟨_, hit⟩, ⟨_, hla⟩, PI_0⟩
            rintro ⟨k, f1, q1, ss1⟩ ls H locs ⟨hl, hP, hS, hC, ⟨i1, hit⟩, ⟨v9, hla⟩, hI⟩ ih83
            have hX : PLc L1 f1 (xs 0) (.inr (10, [.ref (xs 1), .ref (xs 2), .int (bI wt)])) := hC.1
            have hkl := hI.2.2.2
            refine lv_aload_n hx hb d_Mon_place_83 rfl (lv_at hl 0 rfl) ?_
            refine va_csFi (mm_runF (ci := 12) hK ⟨hx, hb, hml, hown⟩ rfl lf_hasNext (c_Itr_hasNext l G it (xs 1) k n i1 (.int mcn) v9 (.int mcn) (by omega) (by omega)) ⟨rfl, rfl, by decide, by decide⟩ (mm_rc hK (pl_1 hP hit) 0 rfl rfl) (pl_cons hP hit (pl_1 hP hla)) rfl hl.1 rfl (Nat.le_of_ble_eq_true rfl) ⟨by decide, by decide⟩ d_Mon_place_84) (fun r84 e84 => ?_)
            subst e84
            refine mm_ifeqB hx hb d_Mon_place_89 (tgt := 115) (by decide) (fun c89 => ?_) (fun c89 => ?_)
            · have hkn : k = n := by have := of_decide_eq_false c89; omega
              refine lv_aload_n hx hb d_Mon_place_115 rfl (lv_at hl 3 rfl) ?_
              refine mm_get (v := .ref (xs 2)) hK hx hb hown lg_Mon_25 (pl_1 hP hX) 0 rfl rfl d_Mon_place_116 ?_
              obtain ⟨hG2, hG3, hG4⟩ := hC.2.2.1
              obtain ⟨_, _, x2, x3, x4, _⟩ := hC.2.2.2.2.1
              have dn := @nd3 (xs 2) (xs 3) (xs 4)
              have hPc := pl_cons hP hG2 (pl_cons hP hG3 (pl_1 hP hG4))
              have hFc := wF (w := [(xs 2, (.inr (9, [.ref (xs 3), .int (nI (np + 1)), .ref (xs 4)]) : va_E)), (xs 3, .inl (G.2.1 0, 24, .inl (nA (va_up tm np t)))), (xs 4, .inl (G.2.1 2, 3, .inl (nA pv)))]) hL hA hS.1 (fa_3 hG2.1 hG3.1 hG4.1)
              refine mm_qv (mm_runV hK ⟨hx, hb, hml, hown⟩ lk_Mon_161 (c_Log_forget l G (xs 2) (xs 3) (xs 4) (np + 1) (va_up tm np t) pv (wD (nd3 (ne_rh x2 x3 (by simp)) (ne_rh x2 x4 (by simp)) (ne_rh x3 x4 (by simp))))) ⟨rfl, rfl, by decide, by decide⟩ (mm_rc hK hPc 0 rfl rfl) hPc rfl hl.1 rfl (Nat.le_of_ble_eq_true rfl) ⟨by decide, by decide⟩ d_Mon_place_119) hS hFc (fun H1 locs e119 hz1 hk1 hS => ?_)
              obtain ⟨pv119, hpv119, e119⟩ := e119
              obtain ⟨f119, u1, u2, u3⟩ := pl_upd hP hk1 e119 (nd3 (ne_rh x2 x3 (by simp)) (ne_rh x2 x4 (by simp)) (ne_rh x3 x4 (by simp))) rfl
              have hC := CI_log hC hn12 (fun a e h hB => u2 a e h (fa_3 (fun e => hB (Or.inl e.symm)) (fun e => hB (Or.inr (Or.inl e.symm))) (fun e => hB (Or.inr (Or.inr e.symm))))) ⟨u3 _ (List.mem_cons_self ..) hG2.1, u3 _ (List.mem_cons_of_mem _ (List.mem_cons_self ..)) hG3.1, u3 _ (List.mem_cons_of_mem _ (List.mem_cons_of_mem _ (List.mem_cons_self ..))) hG4.1⟩
              have hP := u1
              obtain ⟨H, rfl⟩ : ∃ H9, H9 = H1 := ⟨_, rfl⟩
              have hX : PLc L1 f119 (xs 0) (.inr (10, [.ref (xs 1), .ref (xs 2), .int (bI wt)])) := hC.1
              refine lv_iload_n hx hb d_Mon_place_122 rfl (lv_at hl 1 rfl) ?_
              exact mm_irQ hx hb hr hk hS d_Mon_place_123 ⟨fun _ => by rw [cN_nI (k := t) (by omega)]; exact ⟨rfl, L1, f119, q1, ss1, pv119, rh1, ⟨hP, hL⟩, hpv119, hI.1, hC, fun j hj => ⟨(hI.2.2.1 j (by omega)).1, (hI.2.2.1 j (by omega)).2.1⟩⟩, fun h => absurd hpl h⟩
            · have hkn : k < n := by have := of_decide_eq_true c89; omega
              refine lv_aload_n hx hb d_Mon_place_92 rfl (lv_at hl 0 rfl) ?_
              obtain ⟨mcn2, cap, g, g1, g2, g3, g4, g5⟩ := hC.2.1.full (by omega)
              rw [la_eq hla g3] at g3
              have hPc := pl_1 hP hit
              have dl : it ≠ xs 1 := ne_ent hit hla (by simp)
              have de : it ≠ xs 5 := ne_ent hit g4 (by simp)
              have hFc := wF (w := [(it, (.inr (12, [.int (nI k), i1, .int mcn, .ref (xs 1)]) : va_E))]) hL hA hS.1 (fa_1 hit.1)
              refine mm_qq5 (mm_runF (ci := 12) hK ⟨hx, hb, hml, hown⟩ rfl lf_next (c_Itr_next l G it (xs 1) (xs 5) cap k n i1 mcn g hkn g2 g1 (wD nd1) (fa_2 (nA_w (fa_1 dl) (pl_lt hP g3.1)) (nA_w (fa_1 de) (pl_lt hP g4.1)))) ⟨rfl, rfl, by decide, by decide⟩ (mm_rc hK hPc 0 rfl rfl) ⟨hPc, pl_cons hP g3 (pl_1 hP g4)⟩ rfl hl.1 rfl (Nat.le_of_ble_eq_true rfl) ⟨by decide, by decide⟩ d_Mon_place_93) hS hFc (fun r93 H1 locs e93 hz1 hk1 hS => ?_)
              obtain ⟨rfl, e93⟩ := e93
              obtain ⟨f93, u1, u2, u3⟩ := pl_upd hP hk1 e93 nd1 rfl
              have hC := CI_it hC hn12 hrit (fun a e h hB => u2 a e h (fa_1 (fun e => hB e.symm)))
              have hit := u3 _ (List.mem_singleton.mpr rfl) hit.1
              have hla := u2 _ _ hla (fa_1 dl)
              have hP := u1
              obtain ⟨H, rfl⟩ : ∃ H9, H9 = H1 := ⟨_, rfl⟩
              have hX : PLc L1 f93 (xs 0) (.inr (10, [.ref (xs 1), .ref (xs 2), .int (bI wt)])) := hC.1
              refine mm_tv (show va_rf (g k) = .ref (ad 0 k) by rw [g5 k hkn]; rfl) ?_
              have hNk := nd_c (hC.2.2.2.1 k hkn).1
              refine mm_castF hK hx hb hown kw_366 (pl_at hP hNk) (clN_lt _) d_Mon_place_98 ?_
              refine lv_astore (lv' := [(4, .ref (ad 0 k)), (3, .ref it), (2, .int (nI np)), (1, .int (nI t)), (0, .ref (xs 0))]) hx hb d_Mon_place_101 hl (by decide) rfl (fun ls hl => ?_)
              refine lv_aload hx hb d_Mon_place_103 (lv_at hl 0 rfl) ?_
              refine lv_aload_n hx hb d_Mon_place_105 rfl (lv_at hl 4 rfl) ?_
              refine mm_get (v := .ref (xs 2)) hK hx hb hown lg_Mon_25 (pl_1 hP hX) 0 rfl rfl d_Mon_place_106 ?_
              have hWq : WF n (q1 0) (q1 1) (q1 2) (q1 3) (q1 4) (q1 5) := by rw [hI.1 0 (by decide) (by decide), hI.1 1 (by decide) (by decide), hI.1 2 (by decide) (by decide), hI.1 3 (by decide) (by decide), hI.1 4 (by decide) (by decide), hI.1 5 (by decide) (by decide)]; exact hW
              refine W_adv hK hT hx hb hml hown hl.1 (by decide) (by decide) (by decide) (by decide) hP hL hS hA hC.2.2.1 hC.2.2.2.1 hC.2.2.2.2 hkn hWq hT1 hpv (ph := (fun r => va_up (ph r) np (pv r))) (fun r => va_up_self _ _ _) (PI_B hI hkn hW hO htm hph hT1) (fun r9 h9 s9 x9 f2 H locs hP hS hAV hKP hF9 => ?_)
              have hit := hKP _ _ hit (hC.2.2.2.2.no hkn hrit (by omega))
              have hla := hKP _ _ hla (hC.2.2.2.2.no hkn hC.2.2.2.2.1.2.1 (by omega))
              have hC := CI_set hC hn12 hkn hKP hF9
              have hI := PI_s hI hkn hW hAV
              refine lv_goto hx hb d_Mon_place_112 (tgt := 83) (by decide) ?_
              exact ih83 (k + 1, f2, setq q1 k r9 h9, sets ss1 k s9 x9) _ _ _ ⟨lv_sub hl [1, 2, 3, 4] rfl, hP, hS, hC, ⟨_, hit⟩, ⟨_, hla⟩, hI⟩ (by dsimp only; omega)
          · have c32 : np > 0 := nb_zlef (by omega) c32
            refine lv_iload_n hx hb d_Mon_place_35 rfl (lv_at hl 2 rfl) ?_
            refine lv_aload_n hx hb d_Mon_place_36 rfl (lv_at hl 1 rfl) ?_
            refine mm_get (v := .ref (xs 2)) hK hx hb hown lg_Mon_25 (pl_1 hP hX) 0 rfl rfl d_Mon_place_37 ?_
            refine mm_get (v := .ref (xs 3)) hK hx hb hown lg_Mon_140 (pl_1 hP hG2) 0 rfl rfl d_Mon_place_40 ?_
            refine lv_iload_n hx hb d_Mon_place_43 rfl (lv_at hl 0 rfl) ?_
            refine lv_iconst hx hb d_Mon_place_44 ci_1 ?_
            refine lv_isub hx hb d_Mon_place_45 ?_
            refine mm_ti (y := nI (np - 1)) (nI_sub1 c32) ?_
            refine mm_iald hK hx hb (pl_1 hP hG3) 0 rfl (by decide) (i := np - 1) (by omega) d_Mon_place_46 ?_
            have htb : tm (np - 1) ≤ 1000000 := hT0.2.1 _ (by omega)
            refine lv_icmp_ge hx hb d_Mon_place_47 (tgt := 52) (by decide) (fun c47 => ?_) (fun c47 => ?_)
            · rw [Int32.le_iff_toInt_le, nI_toInt (n := tm (np - 1)) (by omega)] at c47
              have hrt : 0 ≤ a1.toInt ∧ a1.toInt ≤ ((1000000 : Nat) : Int) := by omega
              have htl : 0 < np → ((tm (np - 1) : Nat) : Int) ≤ a1.toInt := by intro h; omega
              have hpl : plP wt np tm a1 := ⟨c12, hrt, c28, htl⟩
              obtain ⟨t, et, ht2⟩ := ra_nat hrt (by decide)
              subst et
              rw [nI_toInt (n := t) (by omega)] at htl
              have hT1 : TL (np + 1) (va_up tm np t) := TL_up hT0 c28 ht2 (fun h => by have := htl h; omega)
              have htm : ∀ i, i < np → tm i = (va_up tm np t) i := fun i hi => (va_up_ne _ _ (by omega)).symm
              have hph : ∀ r i, i < np → ph r i = (fun r => va_up (ph r) np (pv r)) r i := fun r i hi => (va_up_ne _ _ (by omega)).symm
              obtain ⟨_, _, x2, x3, x4, _⟩ := hC.2.2.2.2.1
              refine lv_aload_n hx hb d_Mon_place_52 rfl (lv_at hl 1 rfl) ?_
              refine mm_get (v := .ref (xs 2)) hK hx hb hown lg_Mon_25 (pl_1 hP hX) 0 rfl rfl d_Mon_place_53 ?_
              refine mm_get (v := .ref (xs 3)) hK hx hb hown lg_Mon_140 (pl_1 hP hG2) 0 rfl rfl d_Mon_place_56 ?_
              refine lv_iload_n hx hb d_Mon_place_59 rfl (lv_at hl 0 rfl) ?_
              refine lv_iload_n hx hb d_Mon_place_60 rfl (lv_at hl 2 rfl) ?_
              refine p_iastN hK hx hb hP hL hS hG3 (by decide) (i := np) (x := t) (by omega) d_Mon_place_61 (fun H locs hP hS => ?_)
              obtain ⟨f61, hP, hC⟩ : ∃ f9, va_P G.1 cls_all (va_pl L f9) H ∧ CI G Z xs n wt np (va_up tm np t) pv q ad CL ss rh L f9 := ⟨_, hP, CI_log hC hn12 (fun a e h hB => ⟨h.1, (va_up_ne _ _ (fun e => hB (Or.inr (Or.inl e)))).trans h.2⟩) ⟨⟨hG2.1, (va_up_ne _ _ (ne_rh x2 x3 (by simp))).trans hG2.2⟩, ⟨hG3.1, va_up_self _ _ _⟩, ⟨hG4.1, (va_up_ne _ _ (ne_rh x4 x3 (by simp))).trans hG4.2⟩⟩⟩
              have hX : PLc L f61 (xs 0) (.inr (10, [.ref (xs 1), .ref (xs 2), .int (bI wt)])) := hC.1
              obtain ⟨hG2, hG3, hG4⟩ := hC.2.2.1
              refine lv_aload_n hx hb d_Mon_place_62 rfl (lv_at hl 1 rfl) ?_
              refine mm_get (v := .ref (xs 2)) hK hx hb hown lg_Mon_25 (pl_1 hP hX) 0 rfl rfl d_Mon_place_63 ?_
              refine lv_dup hx hb d_Mon_place_66 rfl ?_
              refine mm_get (v := .int (nI np)) hK hx hb hown lg_Mon_136 (pl_1 hP hG2) 0 rfl rfl d_Mon_place_67 ?_
              refine lv_iconst hx hb d_Mon_place_70 ci_1 ?_
              refine lv_iadd hx hb d_Mon_place_71 ?_
              refine mm_ti (nI_add _ _) ?_
              refine p_put hK hx hb hown lp_Mon_136 hP hL hS hG2 (v := .int (nI (np + 1))) rfl rfl (Nat.le_of_ble_eq_true rfl) d_Mon_place_72 (fun H locs hP hS => ?_)
              obtain ⟨f72, hP, hC⟩ : ∃ f9, va_P G.1 cls_all (va_pl L f9) H ∧ CI G Z xs n wt (np + 1) (va_up tm np t) pv q ad CL ss rh L f9 := ⟨_, hP, CI_log hC hn12 (fun a e h hB => ⟨h.1, (va_up_ne _ _ (fun e => hB (Or.inl e))).trans h.2⟩) ⟨⟨hG2.1, va_up_self _ _ _⟩, ⟨hG3.1, (va_up_ne _ _ (ne_rh x3 x2 (by simp))).trans hG3.2⟩, ⟨hG4.1, (va_up_ne _ _ (ne_rh x4 x2 (by simp))).trans hG4.2⟩⟩⟩
              have hX : PLc L f72 (xs 0) (.inr (10, [.ref (xs 1), .ref (xs 2), .int (bI wt)])) := hC.1
              refine lv_aload_n hx hb d_Mon_place_75 rfl (lv_at hl 1 rfl) ?_
              refine mm_get (v := .ref (xs 1)) hK hx hb hown lg_Mon_18 (pl_1 hP hX) 0 rfl rfl d_Mon_place_76 ?_
              obtain ⟨v0, mcn, hla⟩ := hC.2.1.lam
              have hFc := wF (w := ([] : va_W)) hL hA hS.1 (fun q h => absurd h List.not_mem_nil)
              refine mm_qq (mm_runV hK ⟨hx, hb, hml, hown⟩ lk_Mon_144 (c_AL_iterator l G (xs 1) v0 (.int (nI n)) mcn (fa_1 (nA_w (w := ([] : va_W)) (sz := H.size) (fun q h => absurd h List.not_mem_nil) (pl_lt hP hla.1)))) ⟨rfl, rfl, by decide, by decide⟩ (mm_rc hK (pl_1 hP hla) 0 rfl rfl) ⟨fun q h => Or.inr h, pl_1 hP hla⟩ rfl hl.1 rfl (Nat.le_of_ble_eq_true rfl) ⟨by decide, by decide⟩ d_Mon_place_79) hS hFc (fun r79 H1 locs e79 hz1 hk1 hS => ?_)
              obtain ⟨it, rfl, hP1, hD1⟩ := e79
              obtain ⟨L1, f79, hP, hL, k3, _, k5, _⟩ := pl_join (wc := []) (wo := []) (wn := [(it, (.inr (12, [.int (nI 0), .int (-1), .int mcn, .ref (xs 1)]) : va_E))]) hP hL hk1 hFc hP1 hD1 rfl
              obtain ⟨H, rfl⟩ : ∃ H9, H9 = H1 := ⟨_, rfl⟩
              have hE79 : EXT L f72 L1 f79 := fun a ha => k3 a _ ⟨ha, rfl⟩ (fun q h => absurd h List.not_mem_nil)
              obtain ⟨hit, hitn⟩ := k5 _ (List.mem_singleton.mpr rfl)
              have hla := hla.ext hE79
              obtain ⟨rh1, hrit, hC⟩ : ∃ rh1 : Nat → Nat × Nat, rh1 it = (13, 0) ∧ CI G Z xs n wt (np + 1) (va_up tm np t) pv q ad CL ss rh1 L1 f79 := ⟨va_up rh it (13, 0), va_up_self _ _ _, CI_ext (CI_rh hC hitn) hE79⟩
              refine W.widen (k := 1) (n := 4) (by decide) (by decide) ?_
              refine lv_astore_n (lv' := [(3, .ref it), (2, .int (nI np)), (0, .ref (xs 0)), (1, .int (nI t))]) hx hb d_Mon_place_82 rfl hl (by decide) rfl (fun ls hl => ?_)
              refine mm_loop (σ := Nat × (Nat → va_E) × (Nat → Nat → Nat) × (Nat → Nat → Nat → Int64)) (fun x ls H locs => match x with | (k, f1, q1, ss1) => lv_has ls 5 [(3, .ref it), (2, .int (nI np)), (1, .int (nI t)), (0, .ref (xs 0))] ∧ va_P G.1 cls_all (va_pl L1 f1) H ∧ va_S A s.heap H locs ∧ CI G Z xs n wt (np + 1) (va_up tm np t) pv q1 ad CL ss1 rh1 L1 f1 ∧ (∃ i1, PLc L1 f1 it (.inr (12, [.int (nI k), i1, .int mcn, .ref (xs 1)]))) ∧ (∃ v0, PLc L1 f1 (xs 1) (.inr (11, [v0, .int (nI n), .int mcn]))) ∧ PI n np (va_up tm np t) (fun r => va_up (ph r) np (pv r)) q ss k q1 ss1) (fun x => match x with | (k, _, _, _) => n - k) ?_ (0, f79, q, ss) _ _ _ ⟨lv_sub hl [0, 1, 3, 2] rfl, hP, hS, hC, ⟨_, hit⟩, ⟨_, hla⟩, PI_0⟩
              rintro ⟨k, f1, q1, ss1⟩ ls H locs ⟨hl, hP, hS, hC, ⟨i1, hit⟩, ⟨v9, hla⟩, hI⟩ ih83
              have hX : PLc L1 f1 (xs 0) (.inr (10, [.ref (xs 1), .ref (xs 2), .int (bI wt)])) := hC.1
              have hkl := hI.2.2.2
              refine lv_aload_n hx hb d_Mon_place_83 rfl (lv_at hl 0 rfl) ?_
              refine va_csFi (mm_runF (ci := 12) hK ⟨hx, hb, hml, hown⟩ rfl lf_hasNext (c_Itr_hasNext l G it (xs 1) k n i1 (.int mcn) v9 (.int mcn) (by omega) (by omega)) ⟨rfl, rfl, by decide, by decide⟩ (mm_rc hK (pl_1 hP hit) 0 rfl rfl) (pl_cons hP hit (pl_1 hP hla)) rfl hl.1 rfl (Nat.le_of_ble_eq_true rfl) ⟨by decide, by decide⟩ d_Mon_place_84) (fun r84 e84 => ?_)
              subst e84
              refine mm_ifeqB hx hb d_Mon_place_89 (tgt := 115) (by decide) (fun c89 => ?_) (fun c89 => ?_)
              · have hkn : k = n := by have := of_decide_eq_false c89; omega
                refine lv_aload_n hx hb d_Mon_place_115 rfl (lv_at hl 3 rfl) ?_
                refine mm_get (v := .ref (xs 2)) hK hx hb hown lg_Mon_25 (pl_1 hP hX) 0 rfl rfl d_Mon_place_116 ?_
                obtain ⟨hG2, hG3, hG4⟩ := hC.2.2.1
                obtain ⟨_, _, x2, x3, x4, _⟩ := hC.2.2.2.2.1
                have dn := @nd3 (xs 2) (xs 3) (xs 4)
                have hPc := pl_cons hP hG2 (pl_cons hP hG3 (pl_1 hP hG4))
                have hFc := wF (w := [(xs 2, (.inr (9, [.ref (xs 3), .int (nI (np + 1)), .ref (xs 4)]) : va_E)), (xs 3, .inl (G.2.1 0, 24, .inl (nA (va_up tm np t)))), (xs 4, .inl (G.2.1 2, 3, .inl (nA pv)))]) hL hA hS.1 (fa_3 hG2.1 hG3.1 hG4.1)
                refine mm_qv (mm_runV hK ⟨hx, hb, hml, hown⟩ lk_Mon_161 (c_Log_forget l G (xs 2) (xs 3) (xs 4) (np + 1) (va_up tm np t) pv (wD (nd3 (ne_rh x2 x3 (by simp)) (ne_rh x2 x4 (by simp)) (ne_rh x3 x4 (by simp))))) ⟨rfl, rfl, by decide, by decide⟩ (mm_rc hK hPc 0 rfl rfl) hPc rfl hl.1 rfl (Nat.le_of_ble_eq_true rfl) ⟨by decide, by decide⟩ d_Mon_place_119) hS hFc (fun H1 locs e119 hz1 hk1 hS => ?_)
                obtain ⟨pv119, hpv119, e119⟩ := e119
                obtain ⟨f119, u1, u2, u3⟩ := pl_upd hP hk1 e119 (nd3 (ne_rh x2 x3 (by simp)) (ne_rh x2 x4 (by simp)) (ne_rh x3 x4 (by simp))) rfl
                have hC := CI_log hC hn12 (fun a e h hB => u2 a e h (fa_3 (fun e => hB (Or.inl e.symm)) (fun e => hB (Or.inr (Or.inl e.symm))) (fun e => hB (Or.inr (Or.inr e.symm))))) ⟨u3 _ (List.mem_cons_self ..) hG2.1, u3 _ (List.mem_cons_of_mem _ (List.mem_cons_self ..)) hG3.1, u3 _ (List.mem_cons_of_mem _ (List.mem_cons_of_mem _ (List.mem_cons_self ..))) hG4.1⟩
                have hP := u1
                obtain ⟨H, rfl⟩ : ∃ H9, H9 = H1 := ⟨_, rfl⟩
                have hX : PLc L1 f119 (xs 0) (.inr (10, [.ref (xs 1), .ref (xs 2), .int (bI wt)])) := hC.1
                refine lv_iload_n hx hb d_Mon_place_122 rfl (lv_at hl 1 rfl) ?_
                exact mm_irQ hx hb hr hk hS d_Mon_place_123 ⟨fun _ => by rw [cN_nI (k := t) (by omega)]; exact ⟨rfl, L1, f119, q1, ss1, pv119, rh1, ⟨hP, hL⟩, hpv119, hI.1, hC, fun j hj => ⟨(hI.2.2.1 j (by omega)).1, (hI.2.2.1 j (by omega)).2.1⟩⟩, fun h => absurd hpl h⟩
              · have hkn : k < n := by have := of_decide_eq_true c89; omega
                refine lv_aload_n hx hb d_Mon_place_92 rfl (lv_at hl 0 rfl) ?_
                obtain ⟨mcn2, cap, g, g1, g2, g3, g4, g5⟩ := hC.2.1.full (by omega)
                rw [la_eq hla g3] at g3
                have hPc := pl_1 hP hit
                have dl : it ≠ xs 1 := ne_ent hit hla (by simp)
                have de : it ≠ xs 5 := ne_ent hit g4 (by simp)
                have hFc := wF (w := [(it, (.inr (12, [.int (nI k), i1, .int mcn, .ref (xs 1)]) : va_E))]) hL hA hS.1 (fa_1 hit.1)
                refine mm_qq5 (mm_runF (ci := 12) hK ⟨hx, hb, hml, hown⟩ rfl lf_next (c_Itr_next l G it (xs 1) (xs 5) cap k n i1 mcn g hkn g2 g1 (wD nd1) (fa_2 (nA_w (fa_1 dl) (pl_lt hP g3.1)) (nA_w (fa_1 de) (pl_lt hP g4.1)))) ⟨rfl, rfl, by decide, by decide⟩ (mm_rc hK hPc 0 rfl rfl) ⟨hPc, pl_cons hP g3 (pl_1 hP g4)⟩ rfl hl.1 rfl (Nat.le_of_ble_eq_true rfl) ⟨by decide, by decide⟩ d_Mon_place_93) hS hFc (fun r93 H1 locs e93 hz1 hk1 hS => ?_)
                obtain ⟨rfl, e93⟩ := e93
                obtain ⟨f93, u1, u2, u3⟩ := pl_upd hP hk1 e93 nd1 rfl
                have hC := CI_it hC hn12 hrit (fun a e h hB => u2 a e h (fa_1 (fun e => hB e.symm)))
                have hit := u3 _ (List.mem_singleton.mpr rfl) hit.1
                have hla := u2 _ _ hla (fa_1 dl)
                have hP := u1
                obtain ⟨H, rfl⟩ : ∃ H9, H9 = H1 := ⟨_, rfl⟩
                have hX : PLc L1 f93 (xs 0) (.inr (10, [.ref (xs 1), .ref (xs 2), .int (bI wt)])) := hC.1
                refine mm_tv (show va_rf (g k) = .ref (ad 0 k) by rw [g5 k hkn]; rfl) ?_
                have hNk := nd_c (hC.2.2.2.1 k hkn).1
                refine mm_castF hK hx hb hown kw_366 (pl_at hP hNk) (clN_lt _) d_Mon_place_98 ?_
                refine lv_astore (lv' := [(4, .ref (ad 0 k)), (3, .ref it), (2, .int (nI np)), (1, .int (nI t)), (0, .ref (xs 0))]) hx hb d_Mon_place_101 hl (by decide) rfl (fun ls hl => ?_)
                refine lv_aload hx hb d_Mon_place_103 (lv_at hl 0 rfl) ?_
                refine lv_aload_n hx hb d_Mon_place_105 rfl (lv_at hl 4 rfl) ?_
                refine mm_get (v := .ref (xs 2)) hK hx hb hown lg_Mon_25 (pl_1 hP hX) 0 rfl rfl d_Mon_place_106 ?_
                have hWq : WF n (q1 0) (q1 1) (q1 2) (q1 3) (q1 4) (q1 5) := by rw [hI.1 0 (by decide) (by decide), hI.1 1 (by decide) (by decide), hI.1 2 (by decide) (by decide), hI.1 3 (by decide) (by decide), hI.1 4 (by decide) (by decide), hI.1 5 (by decide) (by decide)]; exact hW
                refine W_adv hK hT hx hb hml hown hl.1 (by decide) (by decide) (by decide) (by decide) hP hL hS hA hC.2.2.1 hC.2.2.2.1 hC.2.2.2.2 hkn hWq hT1 hpv (ph := (fun r => va_up (ph r) np (pv r))) (fun r => va_up_self _ _ _) (PI_B hI hkn hW hO htm hph hT1) (fun r9 h9 s9 x9 f2 H locs hP hS hAV hKP hF9 => ?_)
                have hit := hKP _ _ hit (hC.2.2.2.2.no hkn hrit (by omega))
                have hla := hKP _ _ hla (hC.2.2.2.2.no hkn hC.2.2.2.2.1.2.1 (by omega))
                have hC := CI_set hC hn12 hkn hKP hF9
                have hI := PI_s hI hkn hW hAV
                refine lv_goto hx hb d_Mon_place_112 (tgt := 83) (by decide) ?_
                exact ih83 (k + 1, f2, setq q1 k r9 h9, sets ss1 k s9 x9) _ _ _ ⟨lv_sub hl [1, 2, 3, 4] rfl, hP, hS, hC, ⟨_, hit⟩, ⟨_, hla⟩, hI⟩ (by dsimp only; omega)
            · rw [Int32.le_iff_toInt_le, nI_toInt (n := tm (np - 1)) (by omega)] at c47
              refine lv_iconst hx hb d_Mon_place_50 ci_m1 ?_
              refine W.widen (k := 1) (n := 4) (by decide) (by decide) ?_
              exact mm_irQ hx hb hr hk hS d_Mon_place_51 ⟨fun h => absurd h (by intro h; first | exact absurd (c12.symm.trans h.1) (by decide) | (obtain ⟨h1, h2, h3, h4⟩ := h; omega)), fun _ => ⟨rfl, hP, hL⟩⟩
