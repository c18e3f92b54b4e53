set_option maxHeartbeats 4000000 in
set_option maxRecDepth 100000 in
theorem c_Mon_atom (l : Launch) (G : mm_G) {A : Nat → Prop} (Z : Nat × Nat) (L : List Nat) (f : Nat → va_E) (xs : Nat → Nat) (n : Nat) (nd FR RG : Nat → Nat) (CL : Nat → Bool) (v1 : Value) (wt : Bool) (hn13 : n ≤ 12) (hX : PLc L f (xs 0) (.inr (10, [.ref (xs 1), v1, .int (bI wt)]))) (hAL : ALf G Z xs n nd L f) (hE : NDS n nd FR RG CL L f) (a1 a2 a3 : Int32) : Met l y_Mon_atom [.code y_Mon_atom b_Mon_atom 4 (some .int)] { frames := 9, cells := 3, slots := 49, locals := 330 } (mn_Pre G A Z [.ref (xs 0), .int a1, .int a2, .int a3] (fun H => PO G A L f H ∧ (∀ q, H.size ≤ q → A q))) (mm_Qi (fun r H => (atP wt n a1 a2 a3 → r = nI n ∧ MK G A Z L f xs n nd 0 (fun na => .inr (0, [.null, .null, .int (nI (vrN (cN a2) ||| vrN (cN a3))), .int (nI (vrN (cN a2) ||| vrN (cN a3))), .int (bI true), .ref (na 1), .int 0, .int (nI (cN a1)), .int (nI (cN a2)), .int (nI (cN a3))])) 0 0 H) ∧ (¬ (atP wt n a1 a2 a3) → r = -1 ∧ PO G A L f H)) A) 3 49 A := by
  refine mn_of (by decide) (Nat.le_of_ble_eq_true rfl) ?_
  intro p e s m below meth c ls hx hb hr hk hml hown hnm hK hT h0 hl
  have hl : lv_has ls 4 [(0, .ref (xs 0)), (1, .int a1), (2, .int a2), (3, .int a3)] := hl
  obtain ⟨⟨hP, hL⟩, hA⟩ := h0
  have hS : va_S A s.heap s.heap [] := va_S.rf
  have hLo := hL
  have hEE : EXT L f L f := EXT.rf
  have hm := hAL.mem
  obtain ⟨v0, v2, hla⟩ := hAL.la
  refine lv_aload_n hx hb d_Mon_atom_0 rfl (lv_at hl 0 rfl) ?_
  refine mm_si (mm_runV hK ⟨hx, hb, hml, hown⟩ lk_Mon_47 (c_Mon_isFull l G (xs 0) (xs 1) n v0 v1 v2 wt (by omega)) ⟨rfl, rfl, by decide, by decide⟩ (mm_rc hK (pl_1 hP hX) 0 rfl rfl) (pl_cons hP hX (pl_1 hP hla)) rfl hl.1 rfl (Nat.le_of_ble_eq_true rfl) ⟨by decide, by decide⟩ d_Mon_atom_1) (fun r1 e1 => ?_)
  subst e1
  refine mm_ifneB hx hb d_Mon_atom_4 (tgt := 30) (by decide) (fun c4 => ?_) (fun c4 => ?_)
  · have hfu : mkB wt n = false := by simpa using c4
    refine lv_iconst hx hb d_Mon_atom_30 ci_m1 ?_
    refine W.widen (k := 3) (n := 49) (by decide) (by decide) ?_
    exact mm_irQ hx hb hr hk hS d_Mon_atom_31 ⟨fun h => absurd h (by intro h; first | exact absurd (hfu.symm.trans h.1) (by decide) | (simp_all; done) | (obtain ⟨h1, h2, h3⟩ := h; simp_all; omega)), fun _ => ⟨rfl, PO_back hLo hP hEE⟩⟩
  · have hfu : mkB wt n = true := by simpa using c4
    have hn12 : n < 12 := (of_decide_eq_true hfu).2
    refine lv_iload_n hx hb d_Mon_atom_7 rfl (lv_at hl 1 rfl) ?_
    refine lv_if_lt hx hb d_Mon_atom_8 (tgt := 30) (by decide) (fun c8 => ?_) (fun c8 => ?_)
    · rw [Int32.lt_iff_toInt_lt, Int32.toInt_zero] at c8
      refine lv_iconst hx hb d_Mon_atom_30 ci_m1 ?_
      refine W.widen (k := 3) (n := 49) (by decide) (by decide) ?_
      exact mm_irQ hx hb hr hk hS d_Mon_atom_31 ⟨fun h => absurd h (by intro h; first | exact absurd (hfu.symm.trans h.1) (by decide) | (simp_all; done) | (obtain ⟨h1, h2, h3⟩ := h; simp_all; omega)), fun _ => ⟨rfl, PO_back hLo hP hEE⟩⟩
    · rw [Int32.lt_iff_toInt_lt, Int32.toInt_zero] at c8
      refine lv_iload_n hx hb d_Mon_atom_11 rfl (lv_at hl 1 rfl) ?_
      refine lv_iconst hx hb d_Mon_atom_12 ci_2 ?_
      refine lv_icmp_gt hx hb d_Mon_atom_13 (tgt := 30) (by decide) (fun c13 => ?_) (fun c13 => ?_)
      · rw [Int32.lt_iff_toInt_lt, nI_toInt (n := 2) (by omega)] at c13
        refine lv_iconst hx hb d_Mon_atom_30 ci_m1 ?_
        refine W.widen (k := 3) (n := 49) (by decide) (by decide) ?_
        exact mm_irQ hx hb hr hk hS d_Mon_atom_31 ⟨fun h => absurd h (by intro h; first | exact absurd (hfu.symm.trans h.1) (by decide) | (simp_all; done) | (obtain ⟨h1, h2, h3⟩ := h; simp_all; omega)), fun _ => ⟨rfl, PO_back hLo hP hEE⟩⟩
      · rw [Int32.lt_iff_toInt_lt, nI_toInt (n := 2) (by omega)] at c13
        refine lv_iload_n hx hb d_Mon_atom_16 rfl (lv_at hl 2 rfl) ?_
        refine mm_si (mm_runS hK ⟨hx, hb, hml, hown⟩ lk_Mon_51 (c_Mon_isTerm l G a2) ⟨rfl, rfl, by decide, by decide⟩ trivial rfl hl.1 rfl (Nat.le_of_ble_eq_true rfl) ⟨by decide, by decide⟩ d_Mon_atom_17) (fun r17 e17 => ?_)
        subst e17
        refine mm_ifeqB hx hb d_Mon_atom_20 (tgt := 30) (by decide) (fun c20 => ?_) (fun c20 => ?_)
        · refine lv_iconst hx hb d_Mon_atom_30 ci_m1 ?_
          refine W.widen (k := 3) (n := 49) (by decide) (by decide) ?_
          exact mm_irQ hx hb hr hk hS d_Mon_atom_31 ⟨fun h => absurd h (by intro h; first | exact absurd (hfu.symm.trans h.1) (by decide) | (simp_all; done) | (obtain ⟨h1, h2, h3⟩ := h; simp_all; omega)), fun _ => ⟨rfl, PO_back hLo hP hEE⟩⟩
        · refine lv_iload_n hx hb d_Mon_atom_23 rfl (lv_at hl 3 rfl) ?_
          refine mm_si (mm_runS hK ⟨hx, hb, hml, hown⟩ lk_Mon_51 (c_Mon_isTerm l G a3) ⟨rfl, rfl, by decide, by decide⟩ trivial rfl hl.1 rfl (Nat.le_of_ble_eq_true rfl) ⟨by decide, by decide⟩ d_Mon_atom_24) (fun r24 e24 => ?_)
          subst e24
          refine mm_ifneB hx hb d_Mon_atom_27 (tgt := 32) (by decide) (fun c27 => ?_) (fun c27 => ?_)
          · have hta := c20
            obtain ⟨a, rfl, ha8, ha3⟩ := tm_nat c20
            have htb := c27
            obtain ⟨b, rfl, hb8, hb3⟩ := tm_nat c27
            have hrrl : 0 ≤ a1.toInt ∧ a1.toInt ≤ ((2 : Nat) : Int) := by omega
            obtain ⟨rl, erl, hrl2⟩ := ra_nat hrrl (by decide)
            subst erl
            refine lv_aload_n hx hb d_Mon_atom_32 rfl (lv_at hl 0 rfl) ?_
            refine p_new hK hx hb hown ln_Mon_55 hP hL hS hA (by decide) (by decide) d_Mon_atom_33 (fun q33 H L33 f33 hP hL33 hS hX33 hN33 hq33 _ => ?_)
            refine W.widen (k := 1) (n := 10) (by decide) (by decide) ?_
            have hq33o : q33 ∉ L := fun h => hq33 (hEE _ h).1
            refine lv_dup hx hb d_Mon_atom_36 rfl ?_
            refine lv_iload_n hx hb d_Mon_atom_37 rfl (lv_at hl 1 rfl) ?_
            refine lv_iload_n hx hb d_Mon_atom_38 rfl (lv_at hl 2 rfl) ?_
            refine lv_iload_n hx hb d_Mon_atom_39 rfl (lv_at hl 3 rfl) ?_
            have hPc := pl_1 hP hN33
            have hFc := wF (w := [(q33, (.inr (0, [.null, .null, .int 0, .int 0, .int 0, .null, .int 0, .int 0, .int 0, .int 0]) : va_E))]) hL33 hA hS.1 (fa_1 hN33.1)
            refine mm_qv (mm_runI hK ⟨hx, hb, hml, hown⟩ lk_Mon_57 (c_Atom_init l G q33 rl a b ha8 hb8 (wD nd1)) ⟨rfl, rfl, by decide, by decide⟩ ⟨hPc, fun q h => Or.inr h⟩ rfl hl.1 rfl (Nat.le_of_ble_eq_true rfl) ⟨by decide, by decide⟩ d_Mon_atom_40) hS hFc (fun H1 locs e40 hz1 hk1 hS => ?_)
            obtain ⟨x40_s, hP1, hD1⟩ := e40
            obtain ⟨L40, f40, hP, hL40, k3, k4, k5, _⟩ := pl_join (wo := [(q33, (.inr (0, [.null, .null, .int (nI (vrN a ||| vrN b)), .int (nI (vrN a ||| vrN b)), .int (bI true), .ref x40_s, .int 0, .int (nI rl), .int (nI a), .int (nI b)]) : va_E))]) (wn := [(x40_s, (.inl (G.2.1 1, 24, .inr (.inl (fun _ => 0))) : va_E))]) hP hL33 hk1 hFc hP1 hD1 rfl
            obtain ⟨H, rfl⟩ : ∃ H9, H9 = H1 := ⟨_, rfl⟩
            have hE40 := ext_join hX33 hq33 k3
            have hN40 := k4 _ (List.mem_singleton.mpr rfl) hN33.1 _ (List.mem_singleton.mpr rfl)
            obtain ⟨m40_0, m40_0n⟩ := k5 _ (List.mem_cons_self ..)
            have m40_0o : x40_s ∉ L := fun h => m40_0n (hX33 _ (hEE _ h).1).1
            have hX := hX.ext hE40
            have hla := hla.ext hE40
            have hAL := hAL.ext hE40
            have hE := hE.ext hE40
            have hEE := hEE.trans hE40
            have hL := hL40
            refine W.widen (k := 2) (n := 34) (by decide) (by decide) ?_
            refine mm_qi (mn_runV hK hT hS (fun q h => h) ⟨hx, hb, hml, hown⟩ lk_Mon_60 (c_Mon_made l G Z L40 f40 xs n nd v1 (.int (bI wt)) q33 0 [.null, .null, .int (nI (vrN a ||| vrN b)), .int (nI (vrN a ||| vrN b)), .int (bI true), .ref x40_s, .int 0, .int (nI rl), .int (nI a), .int (nI b)] (by decide) hn12 hX hAL hN40 hE.E) ⟨rfl, rfl, by decide, by decide⟩ (mm_rc hK (pl_1 hP hX) 0 rfl rfl) ⟨⟨hP, hL⟩, (fun q h => hA q (Nat.le_trans hS.1 h))⟩ rfl hl.1 rfl (Nat.le_of_ble_eq_true rfl) ⟨by decide, by decide⟩ d_Mon_atom_43) hS (fun q h => h) (fun r43 H locs e43 hz1 hk1 hS => ?_)
            obtain ⟨rfl, L9, f9, ea9, hPO, hAL9, hKP9, hea9⟩ := e43
            refine W.widen (k := 3) (n := 49) (by decide) (by decide) ?_
            exact mm_irQ hx hb hr hk hS d_Mon_atom_46 ⟨fun _ => ⟨rfl, (by rw [cN_nI (k := rl) (by omega), cN_nI (k := a) (by omega), cN_nI (k := b) (by omega)]; exact MK_fin (na := na4 q33 x40_s 0 0) hm hEE hPO hAL9 hKP9 hea9 ⟨⟨hq33o, hN40⟩, ⟨m40_0o, m40_0⟩, fun h => absurd h (by decide), fun h => absurd h (by decide)⟩)⟩, fun h => absurd ⟨hfu, hrrl, hta, htb⟩ h⟩
          · refine lv_iconst hx hb d_Mon_atom_30 ci_m1 ?_
            refine W.widen (k := 3) (n := 49) (by decide) (by decide) ?_
            exact mm_irQ hx hb hr hk hS d_Mon_atom_31 ⟨fun h => absurd h (by intro h; first | exact absurd (hfu.symm.trans h.1) (by decide) | (simp_all; done) | (obtain ⟨h1, h2, h3⟩ := h; simp_all; omega)), fun _ => ⟨rfl, PO_back hLo hP hEE⟩⟩
set_option maxHeartbeats 4000000 in
set_option maxRecDepth 100000 in
theorem c_Mon_compare (l : Launch) (G : mm_G) {A : Nat → Prop} (Z : Nat × Nat) (L : List Nat) (f : Nat → va_E) (xs : Nat → Nat) (n : Nat) (nd FR RG : Nat → Nat) (CL : Nat → Bool) (v1 : Value) (wt : Bool) (hn13 : n ≤ 12) (hX : PLc L f (xs 0) (.inr (10, [.ref (xs 1), v1, .int (bI wt)]))) (hAL : ALf G Z xs n nd L f) (hE : NDS n nd FR RG CL L f) (ls0 : Bool) (a2 a3 : Int32) : Met l y_Mon_compare [.code y_Mon_compare b_Mon_compare 4 (some .int)] { frames := 9, cells := 3, slots := 49, locals := 330 } (mn_Pre G A Z [.ref (xs 0), .int (bI ls0), .int a2, .int a3] (fun H => PO G A L f H ∧ (∀ q, H.size ≤ q → A q))) (mm_Qi (fun r H => (cmP wt n a2 a3 → r = nI n ∧ MK G A Z L f xs n nd (if ls0 then 2 else 1) (fun na => .inr (1, [.null, .null, .int (nI (vrN (cN a2) ||| vrN (cN a3))), .int (nI (cmR ls0 (cN a2) (cN a3))), .int (bI true), .ref (na 1), .int 0, .long (cpS ls0 (cN a2) (cN a3) 16)])) 0 0 H) ∧ (¬ (cmP wt n a2 a3) → r = -1 ∧ PO G A L f H)) A) 3 49 A := by
  refine mn_of (by decide) (Nat.le_of_ble_eq_true rfl) ?_
  intro p e s m below meth c ls hx hb hr hk hml hown hnm hK hT h0 hl
  have hl : lv_has ls 4 [(0, .ref (xs 0)), (1, .int (bI ls0)), (2, .int a2), (3, .int a3)] := hl
  obtain ⟨⟨hP, hL⟩, hA⟩ := h0
  have hS : va_S A s.heap s.heap [] := va_S.rf
  have hLo := hL
  have hEE : EXT L f L f := EXT.rf
  have hm := hAL.mem
  obtain ⟨v0, v2, hla⟩ := hAL.la
  refine lv_aload_n hx hb d_Mon_compare_0 rfl (lv_at hl 0 rfl) ?_
  refine mm_si (mm_runV hK ⟨hx, hb, hml, hown⟩ lk_Mon_47 (c_Mon_isFull l G (xs 0) (xs 1) n v0 v1 v2 wt (by omega)) ⟨rfl, rfl, by decide, by decide⟩ (mm_rc hK (pl_1 hP hX) 0 rfl rfl) (pl_cons hP hX (pl_1 hP hla)) rfl hl.1 rfl (Nat.le_of_ble_eq_true rfl) ⟨by decide, by decide⟩ d_Mon_compare_1) (fun r1 e1 => ?_)
  subst e1
  refine mm_ifneB hx hb d_Mon_compare_4 (tgt := 21) (by decide) (fun c4 => ?_) (fun c4 => ?_)
  · have hfu : mkB wt n = false := by simpa using c4
    refine lv_iconst hx hb d_Mon_compare_21 ci_m1 ?_
    refine lv_goto hx hb d_Mon_compare_22 (tgt := 39) (by decide) ?_
    refine W.widen (k := 3) (n := 49) (by decide) (by decide) ?_
    exact mm_irQ hx hb hr hk hS d_Mon_compare_39 ⟨fun h => absurd h (by intro h; first | exact absurd (hfu.symm.trans h.1) (by decide) | (simp_all; done) | (obtain ⟨h1, h2, h3⟩ := h; simp_all; omega)), fun _ => ⟨rfl, PO_back hLo hP hEE⟩⟩
  · have hfu : mkB wt n = true := by simpa using c4
    have hn12 : n < 12 := (of_decide_eq_true hfu).2
    refine lv_iload_n hx hb d_Mon_compare_7 rfl (lv_at hl 2 rfl) ?_
    refine mm_si (mm_runS hK ⟨hx, hb, hml, hown⟩ lk_Mon_51 (c_Mon_isTerm l G a2) ⟨rfl, rfl, by decide, by decide⟩ trivial rfl hl.1 rfl (Nat.le_of_ble_eq_true rfl) ⟨by decide, by decide⟩ d_Mon_compare_8) (fun r8 e8 => ?_)
    subst e8
    refine mm_ifeqB hx hb d_Mon_compare_11 (tgt := 21) (by decide) (fun c11 => ?_) (fun c11 => ?_)
    · refine lv_iconst hx hb d_Mon_compare_21 ci_m1 ?_
      refine lv_goto hx hb d_Mon_compare_22 (tgt := 39) (by decide) ?_
      refine W.widen (k := 3) (n := 49) (by decide) (by decide) ?_
      exact mm_irQ hx hb hr hk hS d_Mon_compare_39 ⟨fun h => absurd h (by intro h; first | exact absurd (hfu.symm.trans h.1) (by decide) | (simp_all; done) | (obtain ⟨h1, h2, h3⟩ := h; simp_all; omega)), fun _ => ⟨rfl, PO_back hLo hP hEE⟩⟩
    · refine lv_iload_n hx hb d_Mon_compare_14 rfl (lv_at hl 3 rfl) ?_
      refine mm_si (mm_runS hK ⟨hx, hb, hml, hown⟩ lk_Mon_51 (c_Mon_isTerm l G a3) ⟨rfl, rfl, by decide, by decide⟩ trivial rfl hl.1 rfl (Nat.le_of_ble_eq_true rfl) ⟨by decide, by decide⟩ d_Mon_compare_15) (fun r15 e15 => ?_)
      subst e15
      refine mm_ifneB hx hb d_Mon_compare_18 (tgt := 25) (by decide) (fun c18 => ?_) (fun c18 => ?_)
      · have hta := c11
        obtain ⟨a, rfl, ha8, ha3⟩ := tm_nat c11
        have htb := c18
        obtain ⟨b, rfl, hb8, hb3⟩ := tm_nat c18
        refine lv_aload_n hx hb d_Mon_compare_25 rfl (lv_at hl 0 rfl) ?_
        refine p_new hK hx hb hown ln_Mon_64 hP hL hS hA (by decide) (by decide) d_Mon_compare_26 (fun q26 H L26 f26 hP hL26 hS hX26 hN26 hq26 _ => ?_)
        refine W.widen (k := 1) (n := 8) (by decide) (by decide) ?_
        have hq26o : q26 ∉ L := fun h => hq26 (hEE _ h).1
        refine lv_dup hx hb d_Mon_compare_29 rfl ?_
        refine lv_iload_n hx hb d_Mon_compare_30 rfl (lv_at hl 1 rfl) ?_
        refine lv_iload_n hx hb d_Mon_compare_31 rfl (lv_at hl 2 rfl) ?_
        refine lv_iload_n hx hb d_Mon_compare_32 rfl (lv_at hl 3 rfl) ?_
        have hPc := pl_1 hP hN26
        have hFc := wF (w := [(q26, (.inr (1, [.null, .null, .int 0, .int 0, .int 0, .null, .int 0, .long 0]) : va_E))]) hL26 hA hS.1 (fa_1 hN26.1)
        refine mm_qv (mn_runI hK hT hS hFc ⟨hx, hb, hml, hown⟩ lk_Mon_66 (c_Compare_init l G Z q26 ls0 a b ha8 ha3 hb8 hb3 (wD nd1)) ⟨rfl, rfl, by decide, by decide⟩ ⟨hPc, fun q h => Or.inr h⟩ rfl hl.1 rfl (Nat.le_of_ble_eq_true rfl) ⟨by decide, by decide⟩ d_Mon_compare_33) hS hFc (fun H1 locs e33 hz1 hk1 hS => ?_)
        obtain ⟨x33_s, hP1, hD1⟩ := e33
        obtain ⟨L33, f33, hP, hL33, k3, k4, k5, _⟩ := pl_join (wo := [(q26, (.inr (1, [.null, .null, .int (nI (vrN a ||| vrN b)), .int (nI (cmR ls0 a b)), .int (bI true), .ref x33_s, .int 0, .long (cpS ls0 a b 16)]) : va_E))]) (wn := [(x33_s, (.inl (G.2.1 1, 24, .inr (.inl (fun _ => 0))) : va_E))]) hP hL26 hk1 hFc hP1 hD1 rfl
        obtain ⟨H, rfl⟩ : ∃ H9, H9 = H1 := ⟨_, rfl⟩
        have hE33 := ext_join hX26 hq26 k3
        have hN33 := k4 _ (List.mem_singleton.mpr rfl) hN26.1 _ (List.mem_singleton.mpr rfl)
        obtain ⟨m33_0, m33_0n⟩ := k5 _ (List.mem_cons_self ..)
        have m33_0o : x33_s ∉ L := fun h => m33_0n (hX26 _ (hEE _ h).1).1
        have hX := hX.ext hE33
        have hla := hla.ext hE33
        have hAL := hAL.ext hE33
        have hE := hE.ext hE33
        have hEE := hEE.trans hE33
        have hL := hL33
        refine W.widen (k := 2) (n := 32) (by decide) (by decide) ?_
        refine mm_qi (mn_runV hK hT hS (fun q h => h) ⟨hx, hb, hml, hown⟩ lk_Mon_60 (c_Mon_made l G Z L33 f33 xs n nd v1 (.int (bI wt)) q26 1 [.null, .null, .int (nI (vrN a ||| vrN b)), .int (nI (cmR ls0 a b)), .int (bI true), .ref x33_s, .int 0, .long (cpS ls0 a b 16)] (by decide) hn12 hX hAL hN33 hE.E) ⟨rfl, rfl, by decide, by decide⟩ (mm_rc hK (pl_1 hP hX) 0 rfl rfl) ⟨⟨hP, hL⟩, (fun q h => hA q (Nat.le_trans hS.1 h))⟩ rfl hl.1 rfl (Nat.le_of_ble_eq_true rfl) ⟨by decide, by decide⟩ d_Mon_compare_36) hS (fun q h => h) (fun r36 H locs e36 hz1 hk1 hS => ?_)
        obtain ⟨rfl, L9, f9, ea9, hPO, hAL9, hKP9, hea9⟩ := e36
        refine W.widen (k := 3) (n := 47) (by decide) (by decide) ?_
        refine W.widen (k := 3) (n := 49) (by decide) (by decide) ?_
        exact mm_irQ hx hb hr hk hS d_Mon_compare_39 ⟨fun _ => ⟨rfl, (by rw [cN_nI (k := a) (by omega), cN_nI (k := b) (by omega)]; exact MK_fin (na := na4 q26 x33_s 0 0) hm hEE hPO hAL9 hKP9 hea9 ⟨⟨hq26o, hN33⟩, ⟨m33_0o, m33_0⟩, fun h => by split at h <;> omega, fun h => by split at h <;> omega⟩)⟩, fun h => absurd ⟨hfu, hta, htb⟩ h⟩
      · refine lv_iconst hx hb d_Mon_compare_21 ci_m1 ?_
        refine lv_goto hx hb d_Mon_compare_22 (tgt := 39) (by decide) ?_
        refine W.widen (k := 3) (n := 49) (by decide) (by decide) ?_
        exact mm_irQ hx hb hr hk hS d_Mon_compare_39 ⟨fun h => absurd h (by intro h; first | exact absurd (hfu.symm.trans h.1) (by decide) | (simp_all; done) | (obtain ⟨h1, h2, h3⟩ := h; simp_all; omega)), fun _ => ⟨rfl, PO_back hLo hP hEE⟩⟩
set_option maxHeartbeats 4000000 in
set_option maxRecDepth 100000 in
theorem c_Mon_not (l : Launch) (G : mm_G) {A : Nat → Prop} (Z : Nat × Nat) (L : List Nat) (f : Nat → va_E) (xs : Nat → Nat) (n : Nat) (nd FR RG : Nat → Nat) (CL : Nat → Bool) (v1 : Value) (wt : Bool) (hn13 : n ≤ 12) (hX : PLc L f (xs 0) (.inr (10, [.ref (xs 1), v1, .int (bI wt)]))) (hAL : ALf G Z xs n nd L f) (hE : NDS n nd FR RG CL L f) (a1 : Int32) : Met l y_Mon_not [.code y_Mon_not b_Mon_not 3 (some .int)] { frames := 9, cells := 3, slots := 46, locals := 330 } (mn_Pre G A Z [.ref (xs 0), .int a1] (fun H => PO G A L f H ∧ (∀ q, H.size ≤ q → A q))) (mm_Qi (fun r H => (noP wt n a1 → r = nI n ∧ MK G A Z L f xs n nd 3 (fun na => .inr (2, [.ref (nd (cN a1)), .null, .int (nI (FR (cN a1))), .int 0, .int (bI (CL (cN a1))), .ref (na 1), .int 0])) 0 0 H) ∧ (¬ (noP wt n a1) → r = -1 ∧ PO G A L f H)) A) 3 46 A := by
  refine mn_of (by decide) (Nat.le_of_ble_eq_true rfl) ?_
  intro p e s m below meth c ls hx hb hr hk hml hown hnm hK hT h0 hl
  have hl : lv_has ls 3 [(0, .ref (xs 0)), (1, .int a1)] := hl
  obtain ⟨⟨hP, hL⟩, hA⟩ := h0
  have hS : va_S A s.heap s.heap [] := va_S.rf
  have hLo := hL
  have hEE : EXT L f L f := EXT.rf
  have hm := hAL.mem
  obtain ⟨v0, v2, hla⟩ := hAL.la
  refine lv_aload_n hx hb d_Mon_not_0 rfl (lv_at hl 0 rfl) ?_
  refine lv_iload_n hx hb d_Mon_not_1 rfl (lv_at hl 1 rfl) ?_
  cases hfl : fmB a1 n
  · refine mm_sq (mm_runV hK ⟨hx, hb, hml, hown⟩ lk_Mon_69 (c_Mon_formulaO l G (xs 0) (xs 1) n v0 v1 v2 (.int (bI wt)) a1 hfl (by omega)) ⟨rfl, rfl, by decide, by decide⟩ (mm_rc hK (pl_1 hP hX) 0 rfl rfl) (pl_cons hP hX (pl_1 hP hla)) rfl hl.1 rfl (Nat.le_of_ble_eq_true rfl) ⟨by decide, by decide⟩ d_Mon_not_2) (fun r2 e2 => ?_)
    subst e2
    refine lv_astore_nN (lv' := [(2, .null), (0, .ref (xs 0)), (1, .int a1)]) hx hb d_Mon_not_5 rfl hl (by decide) rfl (fun ls hl => ?_)
    refine lv_aload_n hx hb d_Mon_not_6 rfl (lv_at hl 1 rfl) ?_
    refine mm_si (mm_runV hK ⟨hx, hb, hml, hown⟩ lk_Mon_47 (c_Mon_isFull l G (xs 0) (xs 1) n v0 v1 v2 wt (by omega)) ⟨rfl, rfl, by decide, by decide⟩ (mm_rc hK (pl_1 hP hX) 0 rfl rfl) (pl_cons hP hX (pl_1 hP hla)) rfl hl.1 rfl (Nat.le_of_ble_eq_true rfl) ⟨by decide, by decide⟩ d_Mon_not_7) (fun r7 e7 => ?_)
    subst e7
    refine mm_ifneB hx hb d_Mon_not_10 (tgt := 17) (by decide) (fun c10 => ?_) (fun c10 => ?_)
    · have hfu : mkB wt n = false := by simpa using c10
      refine lv_iconst hx hb d_Mon_not_17 ci_m1 ?_
      refine lv_goto hx hb d_Mon_not_18 (tgt := 33) (by decide) ?_
      refine W.widen (k := 3) (n := 46) (by decide) (by decide) ?_
      exact mm_irQ hx hb hr hk hS d_Mon_not_33 ⟨fun h => absurd h (by intro h; first | exact absurd (hfu.symm.trans h.1) (by decide) | (simp_all; done) | (obtain ⟨h1, h2, h3⟩ := h; simp_all; omega)), fun _ => ⟨rfl, PO_back hLo hP hEE⟩⟩
    · have hfu : mkB wt n = true := by simpa using c10
      have hn12 : n < 12 := (of_decide_eq_true hfu).2
      refine lv_aload_nN hx hb d_Mon_not_13 rfl (lv_at hl 0 rfl) ?_
      refine lv_ifnonnullN hx hb d_Mon_not_14 ?_
      refine lv_iconst hx hb d_Mon_not_17 ci_m1 ?_
      refine lv_goto hx hb d_Mon_not_18 (tgt := 33) (by decide) ?_
      refine W.widen (k := 3) (n := 46) (by decide) (by decide) ?_
      exact mm_irQ hx hb hr hk hS d_Mon_not_33 ⟨fun h => absurd h (by intro h; first | exact absurd (hfu.symm.trans h.1) (by decide) | (simp_all; done) | (obtain ⟨h1, h2, h3⟩ := h; simp_all; omega)), fun _ => ⟨rfl, PO_back hLo hP hEE⟩⟩
  · obtain ⟨i, rfl, hi, hib⟩ := fm_nat hfl
    obtain ⟨hFl8, hRl8, cl, la0, la1, la5, la6, lx, hcl, hCl⟩ := hE i hi
    obtain ⟨mcnl, capl, gl, g1l, g2l, g3l, g4l, g5l⟩ := hAL.full (by omega)
    refine mm_sq (mm_runV hK ⟨hx, hb, hml, hown⟩ lk_Mon_69 (c_Mon_formulaI l G (xs 0) (xs 1) (xs 5) capl n v1 (.int (bI wt)) mcnl gl i (nd i) cl la0 la1 (.int (nI (FR i))) (.int (nI (RG i))) (.int (bI (CL i))) la5 la6 lx hcl hi g2l g1l (g5l i hi)) ⟨rfl, rfl, by decide, by decide⟩ (mm_rc hK (pl_1 hP hX) 0 rfl rfl) (pl_cons hP hX (pl_cons hP g3l (pl_cons hP g4l (pl_1 hP hCl)))) rfl hl.1 rfl (Nat.le_of_ble_eq_true rfl) ⟨by decide, by decide⟩ d_Mon_not_2) (fun r2 e2 => ?_)
    subst e2
    refine lv_astore_n (lv' := [(2, .ref (nd i)), (0, .ref (xs 0)), (1, .int (nI i))]) hx hb d_Mon_not_5 rfl hl (by decide) rfl (fun ls hl => ?_)
    refine lv_aload_n hx hb d_Mon_not_6 rfl (lv_at hl 1 rfl) ?_
    refine mm_si (mm_runV hK ⟨hx, hb, hml, hown⟩ lk_Mon_47 (c_Mon_isFull l G (xs 0) (xs 1) n v0 v1 v2 wt (by omega)) ⟨rfl, rfl, by decide, by decide⟩ (mm_rc hK (pl_1 hP hX) 0 rfl rfl) (pl_cons hP hX (pl_1 hP hla)) rfl hl.1 rfl (Nat.le_of_ble_eq_true rfl) ⟨by decide, by decide⟩ d_Mon_not_7) (fun r7 e7 => ?_)
    subst e7
    refine mm_ifneB hx hb d_Mon_not_10 (tgt := 17) (by decide) (fun c10 => ?_) (fun c10 => ?_)
    · have hfu : mkB wt n = false := by simpa using c10
      refine lv_iconst hx hb d_Mon_not_17 ci_m1 ?_
      refine lv_goto hx hb d_Mon_not_18 (tgt := 33) (by decide) ?_
      refine W.widen (k := 3) (n := 46) (by decide) (by decide) ?_
      exact mm_irQ hx hb hr hk hS d_Mon_not_33 ⟨fun h => absurd h (by intro h; first | exact absurd (hfu.symm.trans h.1) (by decide) | (simp_all; done) | (obtain ⟨h1, h2, h3⟩ := h; simp_all; omega)), fun _ => ⟨rfl, PO_back hLo hP hEE⟩⟩
    · have hfu : mkB wt n = true := by simpa using c10
      have hn12 : n < 12 := (of_decide_eq_true hfu).2
      refine lv_aload_n hx hb d_Mon_not_13 rfl (lv_at hl 0 rfl) ?_
      refine lv_ifnonnull hx hb d_Mon_not_14 (tgt := 21) (by decide) ?_
      refine lv_aload_n hx hb d_Mon_not_21 rfl (lv_at hl 1 rfl) ?_
      refine p_new hK hx hb hown ln_Mon_73 hP hL hS hA (by decide) (by decide) d_Mon_not_22 (fun q22 H L22 f22 hP hL22 hS hX22 hN22 hq22 _ => ?_)
      refine W.widen (k := 1) (n := 7) (by decide) (by decide) ?_
      have hq22o : q22 ∉ L := fun h => hq22 (hEE _ h).1
      have hCln : q22 ≠ nd i := fun e => hq22 (by rw [e]; exact hCl.1)
      have hCl := hCl.ext hX22
      refine lv_dup hx hb d_Mon_not_25 rfl ?_
      refine lv_aload_n hx hb d_Mon_not_26 rfl (lv_at hl 0 rfl) ?_
      have hPc := pl_1 hP hN22
      have hFc := wF (w := [(q22, (.inr (2, [.null, .null, .int 0, .int 0, .int 0, .null, .int 0]) : va_E))]) hL22 hA hS.1 (fa_1 hN22.1)
      refine mm_qv (mm_runI hK ⟨hx, hb, hml, hown⟩ lk_Mon_75 (c_Not_init l G q22 (nd i) cl hcl la0 la1 la5 la6 (FR i) (RG i) (CL i) lx (wD nd1) (fa_1 (nA_w (fa_1 hCln) (pl_lt hP hCl.1)))) ⟨rfl, rfl, by decide, by decide⟩ ⟨hPc, fun q h => Or.inr h, (pl_1 hP hCl)⟩ rfl hl.1 rfl (Nat.le_of_ble_eq_true rfl) ⟨by decide, by decide⟩ d_Mon_not_27) hS hFc (fun H1 locs e27 hz1 hk1 hS => ?_)
      obtain ⟨x27_s, hP1, hD1⟩ := e27
      obtain ⟨L27, f27, hP, hL27, k3, k4, k5, _⟩ := pl_join (wo := [(q22, (.inr (2, [.ref (nd i), .null, .int (nI (FR i)), .int 0, .int (bI (CL i)), .ref x27_s, .int 0]) : va_E))]) (wn := [(x27_s, (.inl (G.2.1 1, 24, .inr (.inl (fun _ => 0))) : va_E))]) hP hL22 hk1 hFc hP1 hD1 rfl
      obtain ⟨H, rfl⟩ : ∃ H9, H9 = H1 := ⟨_, rfl⟩
      have hE27 := ext_join hX22 hq22 k3
      have hN27 := k4 _ (List.mem_singleton.mpr rfl) hN22.1 _ (List.mem_singleton.mpr rfl)
      obtain ⟨m27_0, m27_0n⟩ := k5 _ (List.mem_cons_self ..)
      have m27_0o : x27_s ∉ L := fun h => m27_0n (hX22 _ (hEE _ h).1).1
      have hX := hX.ext hE27
      have hla := hla.ext hE27
      have hAL := hAL.ext hE27
      have hE := hE.ext hE27
      have hEE := hEE.trans hE27
      have hL := hL27
      refine W.widen (k := 2) (n := 31) (by decide) (by decide) ?_
      refine mm_qi (mn_runV hK hT hS (fun q h => h) ⟨hx, hb, hml, hown⟩ lk_Mon_60 (c_Mon_made l G Z L27 f27 xs n nd v1 (.int (bI wt)) q22 2 [.ref (nd i), .null, .int (nI (FR i)), .int 0, .int (bI (CL i)), .ref x27_s, .int 0] (by decide) hn12 hX hAL hN27 hE.E) ⟨rfl, rfl, by decide, by decide⟩ (mm_rc hK (pl_1 hP hX) 0 rfl rfl) ⟨⟨hP, hL⟩, (fun q h => hA q (Nat.le_trans hS.1 h))⟩ rfl hl.1 rfl (Nat.le_of_ble_eq_true rfl) ⟨by decide, by decide⟩ d_Mon_not_30) hS (fun q h => h) (fun r30 H locs e30 hz1 hk1 hS => ?_)
      obtain ⟨rfl, L9, f9, ea9, hPO, hAL9, hKP9, hea9⟩ := e30
      refine W.widen (k := 3) (n := 46) (by decide) (by decide) ?_
      exact mm_irQ hx hb hr hk hS d_Mon_not_33 ⟨fun _ => ⟨rfl, (by rw [cN_nI (k := i) (by omega)]; exact MK_fin (na := na4 q22 x27_s 0 0) hm hEE hPO hAL9 hKP9 hea9 ⟨⟨hq22o, hN27⟩, ⟨m27_0o, m27_0⟩, fun h => absurd h (by decide), fun h => absurd h (by decide)⟩)⟩, fun h => absurd ⟨hfu, hfl⟩ h⟩
set_option maxHeartbeats 4000000 in
set_option maxRecDepth 100000 in
theorem c_Mon_join (l : Launch) (G : mm_G) {A : Nat → Prop} (Z : Nat × Nat) (L : List Nat) (f : Nat → va_E) (xs : Nat → Nat) (n : Nat) (nd FR RG : Nat → Nat) (CL : Nat → Bool) (v1 : Value) (wt : Bool) (hn13 : n ≤ 12) (hX : PLc L f (xs 0) (.inr (10, [.ref (xs 1), v1, .int (bI wt)]))) (hAL : ALf G Z xs n nd L f) (hE : NDS n nd FR RG CL L f) (an : Bool) (a2 a3 : Int32) : Met l y_Mon_join [.code y_Mon_join b_Mon_join 6 (some .int)] { frames := 9, cells := 3, slots := 47, locals := 330 } (mn_Pre G A Z [.ref (xs 0), .int (bI an), .int a2, .int a3] (fun H => PO G A L f H ∧ (∀ q, H.size ≤ q → A q))) (mm_Qi (fun r H => (joP wt n a2 a3 → r = nI n ∧ MK G A Z L f xs n nd (if an then 4 else 5) (fun na => .inr (3, [.ref (nd (cN a2)), .ref (nd (cN a3)), .int (nI (FR (cN a2) ||| FR (cN a3))), .int (nI (if an = true then RG (cN a2) ||| RG (cN a3) else RG (cN a2) &&& RG (cN a3))), .int (bI (CL (cN a2) && CL (cN a3))), .ref (na 1), .int 0, .int (bI an)])) 0 0 H) ∧ (¬ (joP wt n a2 a3) → r = -1 ∧ PO G A L f H)) A) 3 47 A := by
  refine mn_of (by decide) (Nat.le_of_ble_eq_true rfl) ?_
  intro p e s m below meth c ls hx hb hr hk hml hown hnm hK hT h0 hl
  have hl : lv_has ls 6 [(0, .ref (xs 0)), (1, .int (bI an)), (2, .int a2), (3, .int a3)] := hl
  obtain ⟨⟨hP, hL⟩, hA⟩ := h0
  have hS : va_S A s.heap s.heap [] := va_S.rf
  have hLo := hL
  have hEE : EXT L f L f := EXT.rf
  have hm := hAL.mem
  obtain ⟨v0, v2, hla⟩ := hAL.la
  refine lv_aload_n hx hb d_Mon_join_0 rfl (lv_at hl 0 rfl) ?_
  refine lv_iload_n hx hb d_Mon_join_1 rfl (lv_at hl 2 rfl) ?_
  cases hfl : fmB a2 n
  · refine mm_sq (mm_runV hK ⟨hx, hb, hml, hown⟩ lk_Mon_69 (c_Mon_formulaO l G (xs 0) (xs 1) n v0 v1 v2 (.int (bI wt)) a2 hfl (by omega)) ⟨rfl, rfl, by decide, by decide⟩ (mm_rc hK (pl_1 hP hX) 0 rfl rfl) (pl_cons hP hX (pl_1 hP hla)) rfl hl.1 rfl (Nat.le_of_ble_eq_true rfl) ⟨by decide, by decide⟩ d_Mon_join_2) (fun r2 e2 => ?_)
    subst e2
    refine lv_astoreN (lv' := [(4, .null), (0, .ref (xs 0)), (1, .int (bI an)), (2, .int a2), (3, .int a3)]) hx hb d_Mon_join_5 hl (by decide) rfl (fun ls hl => ?_)
    refine lv_aload_n hx hb d_Mon_join_7 rfl (lv_at hl 1 rfl) ?_
    refine lv_iload_n hx hb d_Mon_join_8 rfl (lv_at hl 4 rfl) ?_
    cases hfr : fmB a3 n
    · refine mm_sq (mm_runV hK ⟨hx, hb, hml, hown⟩ lk_Mon_69 (c_Mon_formulaO l G (xs 0) (xs 1) n v0 v1 v2 (.int (bI wt)) a3 hfr (by omega)) ⟨rfl, rfl, by decide, by decide⟩ (mm_rc hK (pl_1 hP hX) 0 rfl rfl) (pl_cons hP hX (pl_1 hP hla)) rfl hl.1 rfl (Nat.le_of_ble_eq_true rfl) ⟨by decide, by decide⟩ d_Mon_join_9) (fun r9 e9 => ?_)
      subst e9
      refine lv_astoreN (lv' := [(5, .null), (4, .null), (0, .ref (xs 0)), (1, .int (bI an)), (2, .int a2), (3, .int a3)]) hx hb d_Mon_join_12 hl (by decide) rfl (fun ls hl => ?_)
      refine lv_aload_n hx hb d_Mon_join_14 rfl (lv_at hl 2 rfl) ?_
      refine mm_si (mm_runV hK ⟨hx, hb, hml, hown⟩ lk_Mon_47 (c_Mon_isFull l G (xs 0) (xs 1) n v0 v1 v2 wt (by omega)) ⟨rfl, rfl, by decide, by decide⟩ (mm_rc hK (pl_1 hP hX) 0 rfl rfl) (pl_cons hP hX (pl_1 hP hla)) rfl hl.1 rfl (Nat.le_of_ble_eq_true rfl) ⟨by decide, by decide⟩ d_Mon_join_15) (fun r15 e15 => ?_)
      subst e15
      refine mm_ifneB hx hb d_Mon_join_18 (tgt := 31) (by decide) (fun c18 => ?_) (fun c18 => ?_)
      · have hfu : mkB wt n = false := by simpa using c18
        refine lv_iconst hx hb d_Mon_join_31 ci_m1 ?_
        refine lv_goto hx hb d_Mon_join_32 (tgt := 51) (by decide) ?_
        refine W.widen (k := 3) (n := 47) (by decide) (by decide) ?_
        exact mm_irQ hx hb hr hk hS d_Mon_join_51 ⟨fun h => absurd h (by intro h; first | exact absurd (hfu.symm.trans h.1) (by decide) | (simp_all; done) | (obtain ⟨h1, h2, h3⟩ := h; simp_all; omega)), fun _ => ⟨rfl, PO_back hLo hP hEE⟩⟩
      · have hfu : mkB wt n = true := by simpa using c18
        have hn12 : n < 12 := (of_decide_eq_true hfu).2
        refine lv_aloadN hx hb d_Mon_join_21 (lv_at hl 1 rfl) ?_
        refine lv_ifnullN hx hb d_Mon_join_23 (tgt := 31) (by decide) ?_
        refine lv_iconst hx hb d_Mon_join_31 ci_m1 ?_
        refine lv_goto hx hb d_Mon_join_32 (tgt := 51) (by decide) ?_
        refine W.widen (k := 3) (n := 47) (by decide) (by decide) ?_
        exact mm_irQ hx hb hr hk hS d_Mon_join_51 ⟨fun h => absurd h (by intro h; first | exact absurd (hfu.symm.trans h.1) (by decide) | (simp_all; done) | (obtain ⟨h1, h2, h3⟩ := h; simp_all; omega)), fun _ => ⟨rfl, PO_back hLo hP hEE⟩⟩
    · obtain ⟨j, rfl, hj, hjb⟩ := fm_nat hfr
      obtain ⟨hFr8, hRr8, cr, ra0, ra1, ra5, ra6, rx, hcr, hCr⟩ := hE j hj
      obtain ⟨mcnr, capr, gr, g1r, g2r, g3r, g4r, g5r⟩ := hAL.full (by omega)
      refine mm_sq (mm_runV hK ⟨hx, hb, hml, hown⟩ lk_Mon_69 (c_Mon_formulaI l G (xs 0) (xs 1) (xs 5) capr n v1 (.int (bI wt)) mcnr gr j (nd j) cr ra0 ra1 (.int (nI (FR j))) (.int (nI (RG j))) (.int (bI (CL j))) ra5 ra6 rx hcr hj g2r g1r (g5r j hj)) ⟨rfl, rfl, by decide, by decide⟩ (mm_rc hK (pl_1 hP hX) 0 rfl rfl) (pl_cons hP hX (pl_cons hP g3r (pl_cons hP g4r (pl_1 hP hCr)))) rfl hl.1 rfl (Nat.le_of_ble_eq_true rfl) ⟨by decide, by decide⟩ d_Mon_join_9) (fun r9 e9 => ?_)
      subst e9
      refine lv_astore (lv' := [(5, .ref (nd j)), (4, .null), (0, .ref (xs 0)), (1, .int (bI an)), (2, .int a2), (3, .int (nI j))]) hx hb d_Mon_join_12 hl (by decide) rfl (fun ls hl => ?_)
      refine lv_aload_n hx hb d_Mon_join_14 rfl (lv_at hl 2 rfl) ?_
      refine mm_si (mm_runV hK ⟨hx, hb, hml, hown⟩ lk_Mon_47 (c_Mon_isFull l G (xs 0) (xs 1) n v0 v1 v2 wt (by omega)) ⟨rfl, rfl, by decide, by decide⟩ (mm_rc hK (pl_1 hP hX) 0 rfl rfl) (pl_cons hP hX (pl_1 hP hla)) rfl hl.1 rfl (Nat.le_of_ble_eq_true rfl) ⟨by decide, by decide⟩ d_Mon_join_15) (fun r15 e15 => ?_)
      subst e15
      refine mm_ifneB hx hb d_Mon_join_18 (tgt := 31) (by decide) (fun c18 => ?_) (fun c18 => ?_)
      · have hfu : mkB wt n = false := by simpa using c18
        refine lv_iconst hx hb d_Mon_join_31 ci_m1 ?_
        refine lv_goto hx hb d_Mon_join_32 (tgt := 51) (by decide) ?_
        refine W.widen (k := 3) (n := 47) (by decide) (by decide) ?_
        exact mm_irQ hx hb hr hk hS d_Mon_join_51 ⟨fun h => absurd h (by intro h; first | exact absurd (hfu.symm.trans h.1) (by decide) | (simp_all; done) | (obtain ⟨h1, h2, h3⟩ := h; simp_all; omega)), fun _ => ⟨rfl, PO_back hLo hP hEE⟩⟩
      · have hfu : mkB wt n = true := by simpa using c18
        have hn12 : n < 12 := (of_decide_eq_true hfu).2
        refine lv_aloadN hx hb d_Mon_join_21 (lv_at hl 1 rfl) ?_
        refine lv_ifnullN hx hb d_Mon_join_23 (tgt := 31) (by decide) ?_
        refine lv_iconst hx hb d_Mon_join_31 ci_m1 ?_
        refine lv_goto hx hb d_Mon_join_32 (tgt := 51) (by decide) ?_
        refine W.widen (k := 3) (n := 47) (by decide) (by decide) ?_
        exact mm_irQ hx hb hr hk hS d_Mon_join_51 ⟨fun h => absurd h (by intro h; first | exact absurd (hfu.symm.trans h.1) (by decide) | (simp_all; done) | (obtain ⟨h1, h2, h3⟩ := h; simp_all; omega)), fun _ => ⟨rfl, PO_back hLo hP hEE⟩⟩
  · obtain ⟨i, rfl, hi, hib⟩ := fm_nat hfl
    obtain ⟨hFl8, hRl8, cl, la0, la1, la5, la6, lx, hcl, hCl⟩ := hE i hi
    obtain ⟨mcnl, capl, gl, g1l, g2l, g3l, g4l, g5l⟩ := hAL.full (by omega)
    refine mm_sq (mm_runV hK ⟨hx, hb, hml, hown⟩ lk_Mon_69 (c_Mon_formulaI l G (xs 0) (xs 1) (xs 5) capl n v1 (.int (bI wt)) mcnl gl i (nd i) cl la0 la1 (.int (nI (FR i))) (.int (nI (RG i))) (.int (bI (CL i))) la5 la6 lx hcl hi g2l g1l (g5l i hi)) ⟨rfl, rfl, by decide, by decide⟩ (mm_rc hK (pl_1 hP hX) 0 rfl rfl) (pl_cons hP hX (pl_cons hP g3l (pl_cons hP g4l (pl_1 hP hCl)))) rfl hl.1 rfl (Nat.le_of_ble_eq_true rfl) ⟨by decide, by decide⟩ d_Mon_join_2) (fun r2 e2 => ?_)
    subst e2
    refine lv_astore (lv' := [(4, .ref (nd i)), (0, .ref (xs 0)), (1, .int (bI an)), (2, .int (nI i)), (3, .int a3)]) hx hb d_Mon_join_5 hl (by decide) rfl (fun ls hl => ?_)
    refine lv_aload_n hx hb d_Mon_join_7 rfl (lv_at hl 1 rfl) ?_
    refine lv_iload_n hx hb d_Mon_join_8 rfl (lv_at hl 4 rfl) ?_
    cases hfr : fmB a3 n
    · refine mm_sq (mm_runV hK ⟨hx, hb, hml, hown⟩ lk_Mon_69 (c_Mon_formulaO l G (xs 0) (xs 1) n v0 v1 v2 (.int (bI wt)) a3 hfr (by omega)) ⟨rfl, rfl, by decide, by decide⟩ (mm_rc hK (pl_1 hP hX) 0 rfl rfl) (pl_cons hP hX (pl_1 hP hla)) rfl hl.1 rfl (Nat.le_of_ble_eq_true rfl) ⟨by decide, by decide⟩ d_Mon_join_9) (fun r9 e9 => ?_)
      subst e9
      refine lv_astoreN (lv' := [(5, .null), (4, .ref (nd i)), (0, .ref (xs 0)), (1, .int (bI an)), (2, .int (nI i)), (3, .int a3)]) hx hb d_Mon_join_12 hl (by decide) rfl (fun ls hl => ?_)
      refine lv_aload_n hx hb d_Mon_join_14 rfl (lv_at hl 2 rfl) ?_
      refine mm_si (mm_runV hK ⟨hx, hb, hml, hown⟩ lk_Mon_47 (c_Mon_isFull l G (xs 0) (xs 1) n v0 v1 v2 wt (by omega)) ⟨rfl, rfl, by decide, by decide⟩ (mm_rc hK (pl_1 hP hX) 0 rfl rfl) (pl_cons hP hX (pl_1 hP hla)) rfl hl.1 rfl (Nat.le_of_ble_eq_true rfl) ⟨by decide, by decide⟩ d_Mon_join_15) (fun r15 e15 => ?_)
      subst e15
      refine mm_ifneB hx hb d_Mon_join_18 (tgt := 31) (by decide) (fun c18 => ?_) (fun c18 => ?_)
      · have hfu : mkB wt n = false := by simpa using c18
        refine lv_iconst hx hb d_Mon_join_31 ci_m1 ?_
        refine lv_goto hx hb d_Mon_join_32 (tgt := 51) (by decide) ?_
        refine W.widen (k := 3) (n := 47) (by decide) (by decide) ?_
        exact mm_irQ hx hb hr hk hS d_Mon_join_51 ⟨fun h => absurd h (by intro h; first | exact absurd (hfu.symm.trans h.1) (by decide) | (simp_all; done) | (obtain ⟨h1, h2, h3⟩ := h; simp_all; omega)), fun _ => ⟨rfl, PO_back hLo hP hEE⟩⟩
      · have hfu : mkB wt n = true := by simpa using c18
        have hn12 : n < 12 := (of_decide_eq_true hfu).2
        refine lv_aload hx hb d_Mon_join_21 (lv_at hl 1 rfl) ?_
        refine lv_ifnull hx hb d_Mon_join_23 ?_
        refine lv_aloadN hx hb d_Mon_join_26 (lv_at hl 0 rfl) ?_
        refine lv_ifnonnullN hx hb d_Mon_join_28 ?_
        refine lv_iconst hx hb d_Mon_join_31 ci_m1 ?_
        refine lv_goto hx hb d_Mon_join_32 (tgt := 51) (by decide) ?_
        refine W.widen (k := 3) (n := 47) (by decide) (by decide) ?_
        exact mm_irQ hx hb hr hk hS d_Mon_join_51 ⟨fun h => absurd h (by intro h; first | exact absurd (hfu.symm.trans h.1) (by decide) | (simp_all; done) | (obtain ⟨h1, h2, h3⟩ := h; simp_all; omega)), fun _ => ⟨rfl, PO_back hLo hP hEE⟩⟩
    · obtain ⟨j, rfl, hj, hjb⟩ := fm_nat hfr
      obtain ⟨hFr8, hRr8, cr, ra0, ra1, ra5, ra6, rx, hcr, hCr⟩ := hE j hj
      obtain ⟨mcnr, capr, gr, g1r, g2r, g3r, g4r, g5r⟩ := hAL.full (by omega)
      refine mm_sq (mm_runV hK ⟨hx, hb, hml, hown⟩ lk_Mon_69 (c_Mon_formulaI l G (xs 0) (xs 1) (xs 5) capr n v1 (.int (bI wt)) mcnr gr j (nd j) cr ra0 ra1 (.int (nI (FR j))) (.int (nI (RG j))) (.int (bI (CL j))) ra5 ra6 rx hcr hj g2r g1r (g5r j hj)) ⟨rfl, rfl, by decide, by decide⟩ (mm_rc hK (pl_1 hP hX) 0 rfl rfl) (pl_cons hP hX (pl_cons hP g3r (pl_cons hP g4r (pl_1 hP hCr)))) rfl hl.1 rfl (Nat.le_of_ble_eq_true rfl) ⟨by decide, by decide⟩ d_Mon_join_9) (fun r9 e9 => ?_)
      subst e9
      refine lv_astore (lv' := [(5, .ref (nd j)), (4, .ref (nd i)), (0, .ref (xs 0)), (1, .int (bI an)), (2, .int (nI i)), (3, .int (nI j))]) hx hb d_Mon_join_12 hl (by decide) rfl (fun ls hl => ?_)
      refine lv_aload_n hx hb d_Mon_join_14 rfl (lv_at hl 2 rfl) ?_
      refine mm_si (mm_runV hK ⟨hx, hb, hml, hown⟩ lk_Mon_47 (c_Mon_isFull l G (xs 0) (xs 1) n v0 v1 v2 wt (by omega)) ⟨rfl, rfl, by decide, by decide⟩ (mm_rc hK (pl_1 hP hX) 0 rfl rfl) (pl_cons hP hX (pl_1 hP hla)) rfl hl.1 rfl (Nat.le_of_ble_eq_true rfl) ⟨by decide, by decide⟩ d_Mon_join_15) (fun r15 e15 => ?_)
      subst e15
      refine mm_ifneB hx hb d_Mon_join_18 (tgt := 31) (by decide) (fun c18 => ?_) (fun c18 => ?_)
      · have hfu : mkB wt n = false := by simpa using c18
        refine lv_iconst hx hb d_Mon_join_31 ci_m1 ?_
        refine lv_goto hx hb d_Mon_join_32 (tgt := 51) (by decide) ?_
        refine W.widen (k := 3) (n := 47) (by decide) (by decide) ?_
        exact mm_irQ hx hb hr hk hS d_Mon_join_51 ⟨fun h => absurd h (by intro h; first | exact absurd (hfu.symm.trans h.1) (by decide) | (simp_all; done) | (obtain ⟨h1, h2, h3⟩ := h; simp_all; omega)), fun _ => ⟨rfl, PO_back hLo hP hEE⟩⟩
      · have hfu : mkB wt n = true := by simpa using c18
        have hn12 : n < 12 := (of_decide_eq_true hfu).2
        refine lv_aload hx hb d_Mon_join_21 (lv_at hl 1 rfl) ?_
        refine lv_ifnull hx hb d_Mon_join_23 ?_
        refine lv_aload hx hb d_Mon_join_26 (lv_at hl 0 rfl) ?_
        refine lv_ifnonnull hx hb d_Mon_join_28 (tgt := 35) (by decide) ?_
        refine lv_aload_n hx hb d_Mon_join_35 rfl (lv_at hl 2 rfl) ?_
        refine p_new hK hx hb hown ln_Mon_78 hP hL hS hA (by decide) (by decide) d_Mon_join_36 (fun q36 H L36 f36 hP hL36 hS hX36 hN36 hq36 _ => ?_)
        refine W.widen (k := 1) (n := 8) (by decide) (by decide) ?_
        have hq36o : q36 ∉ L := fun h => hq36 (hEE _ h).1
        have hCln : q36 ≠ nd i := fun e => hq36 (by rw [e]; exact hCl.1)
        have hCl := hCl.ext hX36
        have hCrn : q36 ≠ nd j := fun e => hq36 (by rw [e]; exact hCr.1)
        have hCr := hCr.ext hX36
        refine lv_dup hx hb d_Mon_join_39 rfl ?_
        refine lv_iload_n hx hb d_Mon_join_40 rfl (lv_at hl 3 rfl) ?_
        refine lv_aload hx hb d_Mon_join_41 (lv_at hl 1 rfl) ?_
        refine lv_aload hx hb d_Mon_join_43 (lv_at hl 0 rfl) ?_
        have hPc := pl_1 hP hN36
        have hFc := wF (w := [(q36, (.inr (3, [.null, .null, .int 0, .int 0, .int 0, .null, .int 0, .int 0]) : va_E))]) hL36 hA hS.1 (fa_1 hN36.1)
        refine mm_qv (mm_runI hK ⟨hx, hb, hml, hown⟩ lk_Mon_80 (c_Join_init l G q36 an (nd i) cl hcl la0 la1 la5 la6 (FR i) (RG i) (CL i) lx (nd j) cr hcr ra0 ra1 ra5 ra6 (FR j) (RG j) (CL j) rx hFl8 hFr8 hRl8 hRr8 (wD nd1) (fa_2 (nA_w (fa_1 hCln) (pl_lt hP hCl.1)) (nA_w (fa_1 hCrn) (pl_lt hP hCr.1)))) ⟨rfl, rfl, by decide, by decide⟩ ⟨hPc, fun q h => Or.inr h, (pl_cons hP hCl (pl_1 hP hCr))⟩ rfl hl.1 rfl (Nat.le_of_ble_eq_true rfl) ⟨by decide, by decide⟩ d_Mon_join_45) hS hFc (fun H1 locs e45 hz1 hk1 hS => ?_)
        obtain ⟨x45_s, hP1, hD1⟩ := e45
        obtain ⟨L45, f45, hP, hL45, k3, k4, k5, _⟩ := pl_join (wo := [(q36, (.inr (3, [.ref (nd i), .ref (nd j), .int (nI (FR i ||| FR j)), .int (nI (if an = true then RG i ||| RG j else RG i &&& RG j)), .int (bI (CL i && CL j)), .ref x45_s, .int 0, .int (bI an)]) : va_E))]) (wn := [(x45_s, (.inl (G.2.1 1, 24, .inr (.inl (fun _ => 0))) : va_E))]) hP hL36 hk1 hFc hP1 hD1 rfl
        obtain ⟨H, rfl⟩ : ∃ H9, H9 = H1 := ⟨_, rfl⟩
        have hE45 := ext_join hX36 hq36 k3
        have hN45 := k4 _ (List.mem_singleton.mpr rfl) hN36.1 _ (List.mem_singleton.mpr rfl)
        obtain ⟨m45_0, m45_0n⟩ := k5 _ (List.mem_cons_self ..)
        have m45_0o : x45_s ∉ L := fun h => m45_0n (hX36 _ (hEE _ h).1).1
        have hX := hX.ext hE45
        have hla := hla.ext hE45
        have hAL := hAL.ext hE45
        have hE := hE.ext hE45
        have hEE := hEE.trans hE45
        have hL := hL45
        refine W.widen (k := 2) (n := 32) (by decide) (by decide) ?_
        refine mm_qi (mn_runV hK hT hS (fun q h => h) ⟨hx, hb, hml, hown⟩ lk_Mon_60 (c_Mon_made l G Z L45 f45 xs n nd v1 (.int (bI wt)) q36 3 [.ref (nd i), .ref (nd j), .int (nI (FR i ||| FR j)), .int (nI (if an = true then RG i ||| RG j else RG i &&& RG j)), .int (bI (CL i && CL j)), .ref x45_s, .int 0, .int (bI an)] (by decide) hn12 hX hAL hN45 hE.E) ⟨rfl, rfl, by decide, by decide⟩ (mm_rc hK (pl_1 hP hX) 0 rfl rfl) ⟨⟨hP, hL⟩, (fun q h => hA q (Nat.le_trans hS.1 h))⟩ rfl hl.1 rfl (Nat.le_of_ble_eq_true rfl) ⟨by decide, by decide⟩ d_Mon_join_48) hS (fun q h => h) (fun r48 H locs e48 hz1 hk1 hS => ?_)
        obtain ⟨rfl, L9, f9, ea9, hPO, hAL9, hKP9, hea9⟩ := e48
        refine W.widen (k := 3) (n := 47) (by decide) (by decide) ?_
        exact mm_irQ hx hb hr hk hS d_Mon_join_51 ⟨fun _ => ⟨rfl, (by rw [cN_nI (k := i) (by omega), cN_nI (k := j) (by omega)]; exact MK_fin (na := na4 q36 x45_s 0 0) hm hEE hPO hAL9 hKP9 hea9 ⟨⟨hq36o, hN45⟩, ⟨m45_0o, m45_0⟩, fun h => by split at h <;> omega, fun h => by split at h <;> omega⟩)⟩, fun h => absurd ⟨hfu, hfl, hfr⟩ h⟩
set_option maxHeartbeats 4000000 in
set_option maxRecDepth 100000 in
theorem c_Mon_exists (l : Launch) (G : mm_G) {A : Nat → Prop} (Z : Nat × Nat) (L : List Nat) (f : Nat → va_E) (xs : Nat → Nat) (n : Nat) (nd FR RG : Nat → Nat) (CL : Nat → Bool) (v1 : Value) (wt : Bool) (hn13 : n ≤ 12) (hX : PLc L f (xs 0) (.inr (10, [.ref (xs 1), v1, .int (bI wt)]))) (hAL : ALf G Z xs n nd L f) (hE : NDS n nd FR RG CL L f) (a1 a2 : Int32) : Met l y_Mon_exists [.code y_Mon_exists b_Mon_exists 4 (some .int)] { frames := 9, cells := 3, slots := 47, locals := 330 } (mn_Pre G A Z [.ref (xs 0), .int a1, .int a2] (fun H => PO G A L f H ∧ (∀ q, H.size ≤ q → A q))) (mm_Qi (fun r H => (exP wt n a1 a2 → r = nI n ∧ MK G A Z L f xs n nd 6 (fun na => .inr (4, [.ref (nd (cN a2)), .null, .int (nI (clrN (FR (cN a2)) (cN a1))), .int (nI (clrN (RG (cN a2)) (cN a1))), .int (bI (CL (cN a2) && (RG (cN a2)).testBit (cN a1))), .ref (na 1), .int 0, .int (nI (cN a1))])) 0 0 H) ∧ (¬ (exP wt n a1 a2) → r = -1 ∧ PO G A L f H)) A) 3 47 A := by
  refine mn_of (by decide) (Nat.le_of_ble_eq_true rfl) ?_
  intro p e s m below meth c ls hx hb hr hk hml hown hnm hK hT h0 hl
  have hl : lv_has ls 4 [(0, .ref (xs 0)), (1, .int a1), (2, .int a2)] := hl
  obtain ⟨⟨hP, hL⟩, hA⟩ := h0
  have hS : va_S A s.heap s.heap [] := va_S.rf
  have hLo := hL
  have hEE : EXT L f L f := EXT.rf
  have hm := hAL.mem
  obtain ⟨v0, v2, hla⟩ := hAL.la
  refine lv_aload_n hx hb d_Mon_exists_0 rfl (lv_at hl 0 rfl) ?_
  refine lv_iload_n hx hb d_Mon_exists_1 rfl (lv_at hl 2 rfl) ?_
  cases hfl : fmB a2 n
  · refine mm_sq (mm_runV hK ⟨hx, hb, hml, hown⟩ lk_Mon_69 (c_Mon_formulaO l G (xs 0) (xs 1) n v0 v1 v2 (.int (bI wt)) a2 hfl (by omega)) ⟨rfl, rfl, by decide, by decide⟩ (mm_rc hK (pl_1 hP hX) 0 rfl rfl) (pl_cons hP hX (pl_1 hP hla)) rfl hl.1 rfl (Nat.le_of_ble_eq_true rfl) ⟨by decide, by decide⟩ d_Mon_exists_2) (fun r2 e2 => ?_)
    subst e2
    refine lv_astore_nN (lv' := [(3, .null), (0, .ref (xs 0)), (1, .int a1), (2, .int a2)]) hx hb d_Mon_exists_5 rfl hl (by decide) rfl (fun ls hl => ?_)
    refine lv_aload_n hx hb d_Mon_exists_6 rfl (lv_at hl 1 rfl) ?_
    refine mm_si (mm_runV hK ⟨hx, hb, hml, hown⟩ lk_Mon_47 (c_Mon_isFull l G (xs 0) (xs 1) n v0 v1 v2 wt (by omega)) ⟨rfl, rfl, by decide, by decide⟩ (mm_rc hK (pl_1 hP hX) 0 rfl rfl) (pl_cons hP hX (pl_1 hP hla)) rfl hl.1 rfl (Nat.le_of_ble_eq_true rfl) ⟨by decide, by decide⟩ d_Mon_exists_7) (fun r7 e7 => ?_)
    subst e7
    refine mm_ifneB hx hb d_Mon_exists_10 (tgt := 26) (by decide) (fun c10 => ?_) (fun c10 => ?_)
    · have hfu : mkB wt n = false := by simpa using c10
      refine lv_iconst hx hb d_Mon_exists_26 ci_m1 ?_
      refine lv_goto hx hb d_Mon_exists_27 (tgt := 43) (by decide) ?_
      refine W.widen (k := 3) (n := 47) (by decide) (by decide) ?_
      exact mm_irQ hx hb hr hk hS d_Mon_exists_43 ⟨fun h => absurd h (by intro h; first | exact absurd (hfu.symm.trans h.1) (by decide) | (simp_all; done) | (obtain ⟨h1, h2, h3⟩ := h; simp_all; omega)), fun _ => ⟨rfl, PO_back hLo hP hEE⟩⟩
    · have hfu : mkB wt n = true := by simpa using c10
      have hn12 : n < 12 := (of_decide_eq_true hfu).2
      refine lv_iload_n hx hb d_Mon_exists_13 rfl (lv_at hl 2 rfl) ?_
      refine lv_if_lt hx hb d_Mon_exists_14 (tgt := 26) (by decide) (fun c14 => ?_) (fun c14 => ?_)
      · rw [Int32.lt_iff_toInt_lt, Int32.toInt_zero] at c14
        refine lv_iconst hx hb d_Mon_exists_26 ci_m1 ?_
        refine lv_goto hx hb d_Mon_exists_27 (tgt := 43) (by decide) ?_
        refine W.widen (k := 3) (n := 47) (by decide) (by decide) ?_
        exact mm_irQ hx hb hr hk hS d_Mon_exists_43 ⟨fun h => absurd h (by intro h; first | exact absurd (hfu.symm.trans h.1) (by decide) | (simp_all; done) | (obtain ⟨h1, h2, h3⟩ := h; simp_all; omega)), fun _ => ⟨rfl, PO_back hLo hP hEE⟩⟩
      · rw [Int32.lt_iff_toInt_lt, Int32.toInt_zero] at c14
        refine lv_iload_n hx hb d_Mon_exists_17 rfl (lv_at hl 2 rfl) ?_
        refine lv_iconst hx hb d_Mon_exists_18 ci_2 ?_
        refine lv_icmp_gt hx hb d_Mon_exists_19 (tgt := 26) (by decide) (fun c19 => ?_) (fun c19 => ?_)
        · rw [Int32.lt_iff_toInt_lt, nI_toInt (n := 2) (by omega)] at c19
          refine lv_iconst hx hb d_Mon_exists_26 ci_m1 ?_
          refine lv_goto hx hb d_Mon_exists_27 (tgt := 43) (by decide) ?_
          refine W.widen (k := 3) (n := 47) (by decide) (by decide) ?_
          exact mm_irQ hx hb hr hk hS d_Mon_exists_43 ⟨fun h => absurd h (by intro h; first | exact absurd (hfu.symm.trans h.1) (by decide) | (simp_all; done) | (obtain ⟨h1, h2, h3⟩ := h; simp_all; omega)), fun _ => ⟨rfl, PO_back hLo hP hEE⟩⟩
        · rw [Int32.lt_iff_toInt_lt, nI_toInt (n := 2) (by omega)] at c19
          refine lv_aload_nN hx hb d_Mon_exists_22 rfl (lv_at hl 0 rfl) ?_
          refine lv_ifnonnullN hx hb d_Mon_exists_23 ?_
          refine lv_iconst hx hb d_Mon_exists_26 ci_m1 ?_
          refine lv_goto hx hb d_Mon_exists_27 (tgt := 43) (by decide) ?_
          refine W.widen (k := 3) (n := 47) (by decide) (by decide) ?_
          exact mm_irQ hx hb hr hk hS d_Mon_exists_43 ⟨fun h => absurd h (by intro h; first | exact absurd (hfu.symm.trans h.1) (by decide) | (simp_all; done) | (obtain ⟨h1, h2, h3⟩ := h; simp_all; omega)), fun _ => ⟨rfl, PO_back hLo hP hEE⟩⟩
  · obtain ⟨i, rfl, hi, hib⟩ := fm_nat hfl
    obtain ⟨hFl8, hRl8, cl, la0, la1, la5, la6, lx, hcl, hCl⟩ := hE i hi
    obtain ⟨mcnl, capl, gl, g1l, g2l, g3l, g4l, g5l⟩ := hAL.full (by omega)
    refine mm_sq (mm_runV hK ⟨hx, hb, hml, hown⟩ lk_Mon_69 (c_Mon_formulaI l G (xs 0) (xs 1) (xs 5) capl n v1 (.int (bI wt)) mcnl gl i (nd i) cl la0 la1 (.int (nI (FR i))) (.int (nI (RG i))) (.int (bI (CL i))) la5 la6 lx hcl hi g2l g1l (g5l i hi)) ⟨rfl, rfl, by decide, by decide⟩ (mm_rc hK (pl_1 hP hX) 0 rfl rfl) (pl_cons hP hX (pl_cons hP g3l (pl_cons hP g4l (pl_1 hP hCl)))) rfl hl.1 rfl (Nat.le_of_ble_eq_true rfl) ⟨by decide, by decide⟩ d_Mon_exists_2) (fun r2 e2 => ?_)
    subst e2
    refine lv_astore_n (lv' := [(3, .ref (nd i)), (0, .ref (xs 0)), (1, .int a1), (2, .int (nI i))]) hx hb d_Mon_exists_5 rfl hl (by decide) rfl (fun ls hl => ?_)
    refine lv_aload_n hx hb d_Mon_exists_6 rfl (lv_at hl 1 rfl) ?_
    refine mm_si (mm_runV hK ⟨hx, hb, hml, hown⟩ lk_Mon_47 (c_Mon_isFull l G (xs 0) (xs 1) n v0 v1 v2 wt (by omega)) ⟨rfl, rfl, by decide, by decide⟩ (mm_rc hK (pl_1 hP hX) 0 rfl rfl) (pl_cons hP hX (pl_1 hP hla)) rfl hl.1 rfl (Nat.le_of_ble_eq_true rfl) ⟨by decide, by decide⟩ d_Mon_exists_7) (fun r7 e7 => ?_)
    subst e7
    refine mm_ifneB hx hb d_Mon_exists_10 (tgt := 26) (by decide) (fun c10 => ?_) (fun c10 => ?_)
    · have hfu : mkB wt n = false := by simpa using c10
      refine lv_iconst hx hb d_Mon_exists_26 ci_m1 ?_
      refine lv_goto hx hb d_Mon_exists_27 (tgt := 43) (by decide) ?_
      refine W.widen (k := 3) (n := 47) (by decide) (by decide) ?_
      exact mm_irQ hx hb hr hk hS d_Mon_exists_43 ⟨fun h => absurd h (by intro h; first | exact absurd (hfu.symm.trans h.1) (by decide) | (simp_all; done) | (obtain ⟨h1, h2, h3⟩ := h; simp_all; omega)), fun _ => ⟨rfl, PO_back hLo hP hEE⟩⟩
    · have hfu : mkB wt n = true := by simpa using c10
      have hn12 : n < 12 := (of_decide_eq_true hfu).2
      refine lv_iload_n hx hb d_Mon_exists_13 rfl (lv_at hl 2 rfl) ?_
      refine lv_if_lt hx hb d_Mon_exists_14 (tgt := 26) (by decide) (fun c14 => ?_) (fun c14 => ?_)
      · rw [Int32.lt_iff_toInt_lt, Int32.toInt_zero] at c14
        refine lv_iconst hx hb d_Mon_exists_26 ci_m1 ?_
        refine lv_goto hx hb d_Mon_exists_27 (tgt := 43) (by decide) ?_
        refine W.widen (k := 3) (n := 47) (by decide) (by decide) ?_
        exact mm_irQ hx hb hr hk hS d_Mon_exists_43 ⟨fun h => absurd h (by intro h; first | exact absurd (hfu.symm.trans h.1) (by decide) | (simp_all; done) | (obtain ⟨h1, h2, h3⟩ := h; simp_all; omega)), fun _ => ⟨rfl, PO_back hLo hP hEE⟩⟩
      · rw [Int32.lt_iff_toInt_lt, Int32.toInt_zero] at c14
        refine lv_iload_n hx hb d_Mon_exists_17 rfl (lv_at hl 2 rfl) ?_
        refine lv_iconst hx hb d_Mon_exists_18 ci_2 ?_
        refine lv_icmp_gt hx hb d_Mon_exists_19 (tgt := 26) (by decide) (fun c19 => ?_) (fun c19 => ?_)
        · rw [Int32.lt_iff_toInt_lt, nI_toInt (n := 2) (by omega)] at c19
          refine lv_iconst hx hb d_Mon_exists_26 ci_m1 ?_
          refine lv_goto hx hb d_Mon_exists_27 (tgt := 43) (by decide) ?_
          refine W.widen (k := 3) (n := 47) (by decide) (by decide) ?_
          exact mm_irQ hx hb hr hk hS d_Mon_exists_43 ⟨fun h => absurd h (by intro h; first | exact absurd (hfu.symm.trans h.1) (by decide) | (simp_all; done) | (obtain ⟨h1, h2, h3⟩ := h; simp_all; omega)), fun _ => ⟨rfl, PO_back hLo hP hEE⟩⟩
        · rw [Int32.lt_iff_toInt_lt, nI_toInt (n := 2) (by omega)] at c19
          refine lv_aload_n hx hb d_Mon_exists_22 rfl (lv_at hl 0 rfl) ?_
          refine lv_ifnonnull hx hb d_Mon_exists_23 (tgt := 30) (by decide) ?_
          have hrvr : 0 ≤ a1.toInt ∧ a1.toInt ≤ ((2 : Nat) : Int) := by omega
          obtain ⟨vr, evr, hvr2⟩ := ra_nat hrvr (by decide)
          subst evr
          refine lv_aload_n hx hb d_Mon_exists_30 rfl (lv_at hl 1 rfl) ?_
          refine p_new hK hx hb hown ln_Mon_83 hP hL hS hA (by decide) (by decide) d_Mon_exists_31 (fun q31 H L31 f31 hP hL31 hS hX31 hN31 hq31 _ => ?_)
          refine W.widen (k := 1) (n := 8) (by decide) (by decide) ?_
          have hq31o : q31 ∉ L := fun h => hq31 (hEE _ h).1
          have hCln : q31 ≠ nd i := fun e => hq31 (by rw [e]; exact hCl.1)
          have hCl := hCl.ext hX31
          refine lv_dup hx hb d_Mon_exists_34 rfl ?_
          refine lv_iload_n hx hb d_Mon_exists_35 rfl (lv_at hl 2 rfl) ?_
          refine lv_aload_n hx hb d_Mon_exists_36 rfl (lv_at hl 0 rfl) ?_
          have hPc := pl_1 hP hN31
          have hFc := wF (w := [(q31, (.inr (4, [.null, .null, .int 0, .int 0, .int 0, .null, .int 0, .int 0]) : va_E))]) hL31 hA hS.1 (fa_1 hN31.1)
          refine mm_qv (mm_runI hK ⟨hx, hb, hml, hown⟩ lk_Mon_85 (c_Exists_init l G q31 vr hvr2 (nd i) cl hcl la0 la1 la5 la6 (FR i) (RG i) (CL i) lx hFl8 hRl8 (wD nd1) (fa_1 (nA_w (fa_1 hCln) (pl_lt hP hCl.1)))) ⟨rfl, rfl, by decide, by decide⟩ ⟨hPc, fun q h => Or.inr h, (pl_1 hP hCl)⟩ rfl hl.1 rfl (Nat.le_of_ble_eq_true rfl) ⟨by decide, by decide⟩ d_Mon_exists_37) hS hFc (fun H1 locs e37 hz1 hk1 hS => ?_)
          obtain ⟨x37_s, hP1, hD1⟩ := e37
          obtain ⟨L37, f37, hP, hL37, k3, k4, k5, _⟩ := pl_join (wo := [(q31, (.inr (4, [.ref (nd i), .null, .int (nI (clrN (FR i) vr)), .int (nI (clrN (RG i) vr)), .int (bI (CL i && (RG i).testBit vr)), .ref x37_s, .int 0, .int (nI vr)]) : va_E))]) (wn := [(x37_s, (.inl (G.2.1 1, 24, .inr (.inl (fun _ => 0))) : va_E))]) hP hL31 hk1 hFc hP1 hD1 rfl
          obtain ⟨H, rfl⟩ : ∃ H9, H9 = H1 := ⟨_, rfl⟩
          have hE37 := ext_join hX31 hq31 k3
          have hN37 := k4 _ (List.mem_singleton.mpr rfl) hN31.1 _ (List.mem_singleton.mpr rfl)
          obtain ⟨m37_0, m37_0n⟩ := k5 _ (List.mem_cons_self ..)
          have m37_0o : x37_s ∉ L := fun h => m37_0n (hX31 _ (hEE _ h).1).1
          have hX := hX.ext hE37
          have hla := hla.ext hE37
          have hAL := hAL.ext hE37
          have hE := hE.ext hE37
          have hEE := hEE.trans hE37
          have hL := hL37
          refine W.widen (k := 2) (n := 32) (by decide) (by decide) ?_
          refine mm_qi (mn_runV hK hT hS (fun q h => h) ⟨hx, hb, hml, hown⟩ lk_Mon_60 (c_Mon_made l G Z L37 f37 xs n nd v1 (.int (bI wt)) q31 4 [.ref (nd i), .null, .int (nI (clrN (FR i) vr)), .int (nI (clrN (RG i) vr)), .int (bI (CL i && (RG i).testBit vr)), .ref x37_s, .int 0, .int (nI vr)] (by decide) hn12 hX hAL hN37 hE.E) ⟨rfl, rfl, by decide, by decide⟩ (mm_rc hK (pl_1 hP hX) 0 rfl rfl) ⟨⟨hP, hL⟩, (fun q h => hA q (Nat.le_trans hS.1 h))⟩ rfl hl.1 rfl (Nat.le_of_ble_eq_true rfl) ⟨by decide, by decide⟩ d_Mon_exists_40) hS (fun q h => h) (fun r40 H locs e40 hz1 hk1 hS => ?_)
          obtain ⟨rfl, L9, f9, ea9, hPO, hAL9, hKP9, hea9⟩ := e40
          refine W.widen (k := 3) (n := 47) (by decide) (by decide) ?_
          exact mm_irQ hx hb hr hk hS d_Mon_exists_43 ⟨fun _ => ⟨rfl, (by rw [cN_nI (k := vr) (by omega), cN_nI (k := i) (by omega)]; exact MK_fin (na := na4 q31 x37_s 0 0) hm hEE hPO hAL9 hKP9 hea9 ⟨⟨hq31o, hN37⟩, ⟨m37_0o, m37_0⟩, fun h => absurd h (by decide), fun h => absurd h (by decide)⟩)⟩, fun h => absurd ⟨hfu, hrvr, hfl⟩ h⟩
set_option maxHeartbeats 4000000 in
set_option maxRecDepth 100000 in
theorem c_Mon_previous (l : Launch) (G : mm_G) {A : Nat → Prop} (Z : Nat × Nat) (L : List Nat) (f : Nat → va_E) (xs : Nat → Nat) (n : Nat) (nd FR RG : Nat → Nat) (CL : Nat → Bool) (v1 : Value) (wt : Bool) (hn13 : n ≤ 12) (hX : PLc L f (xs 0) (.inr (10, [.ref (xs 1), v1, .int (bI wt)]))) (hAL : ALf G Z xs n nd L f) (hE : NDS n nd FR RG CL L f) (a1 a2 a3 : Int32) : Met l y_Mon_previous [.code y_Mon_previous b_Mon_previous 6 (some .int)] { frames := 9, cells := 4, slots := 49, locals := 330 } (mn_Pre G A Z [.ref (xs 0), .int a1, .int a2, .int a3] (fun H => PO G A L f H ∧ (∀ q, H.size ≤ q → A q))) (mm_Qi (fun r H => (pvP wt n a1 a2 a3 → r = nI n ∧ MK G A Z L f xs n nd 7 (fun na => .inr (5, [.ref (nd (cN a3)), .null, .int (nI (FR (cN a3))), .int (nI (RG (cN a3))), .int (bI (CL (cN a3))), .ref (na 1), .int 0, .ref (na 3)])) a1 a2 H) ∧ (¬ (pvP wt n a1 a2 a3) → r = -1 ∧ PO G A L f H)) A) 4 49 A := by
  refine mn_of (by decide) (Nat.le_of_ble_eq_true rfl) ?_
  intro p e s m below meth c ls hx hb hr hk hml hown hnm hK hT h0 hl
  have hl : lv_has ls 6 [(0, .ref (xs 0)), (1, .int a1), (2, .int a2), (3, .int a3)] := hl
  obtain ⟨⟨hP, hL⟩, hA⟩ := h0
  have hS : va_S A s.heap s.heap [] := va_S.rf
  have hLo := hL
  have hEE : EXT L f L f := EXT.rf
  have hm := hAL.mem
  obtain ⟨v0, v2, hla⟩ := hAL.la
  refine p_new hK hx hb hown ln_Mon_88 hP hL hS hA (by decide) (by decide) d_Mon_previous_0 (fun q0 H L0 f0 hP hL0 hS hX0 hN0 hq0 _ => ?_)
  refine W.widen (k := 1) (n := 2) (by decide) (by decide) ?_
  have hq0o : q0 ∉ L := fun h => hq0 (hEE _ h).1
  refine lv_dup hx hb d_Mon_previous_3 rfl ?_
  refine lv_iload_n hx hb d_Mon_previous_4 rfl (lv_at hl 1 rfl) ?_
  refine lv_iload_n hx hb d_Mon_previous_5 rfl (lv_at hl 2 rfl) ?_
  have hPc := pl_1 hP hN0
  have hFc := wF (w := [(q0, (.inr (8, [.int 0, .int 0]) : va_E))]) hL0 hA hS.1 (fa_1 hN0.1)
  refine mm_qv (mm_runIN hK ⟨hx, hb, hml, hown⟩ lk_Mon_90 (c_Interval_init l G q0 a1 a2 (wD nd1)) ⟨rfl, rfl, by decide, by decide⟩ hPc rfl hl.1 rfl (Nat.le_of_ble_eq_true rfl) ⟨by decide, by decide⟩ d_Mon_previous_6) hS hFc (fun H1 locs e6 hz1 hk1 hS => ?_)
  have hP1 := e6
  have hD1 : va_D (va_A [(q0, (.inr (8, [.int 0, .int 0]) : va_E))] H.size) [(q0, .inr (8, [.int a1, .int a2]))] := mD (wD nd1) rfl
  obtain ⟨L6, f6, hP, hL6, k3, k4, k5, _⟩ := pl_join (wo := [(q0, (.inr (8, [.int a1, .int a2]) : va_E))]) (wn := []) hP hL0 hk1 hFc hP1 hD1 rfl
  obtain ⟨H, rfl⟩ : ∃ H9, H9 = H1 := ⟨_, rfl⟩
  have hE6 := ext_join hX0 hq0 k3
  have hN6 := k4 _ (List.mem_singleton.mpr rfl) hN0.1 _ (List.mem_singleton.mpr rfl)
  have hX := hX.ext hE6
  have hla := hla.ext hE6
  have hAL := hAL.ext hE6
  have hE := hE.ext hE6
  have hEE := hEE.trans hE6
  have hL := hL6
  have hI := hN6
  have hIo := hq0o
  refine lv_astore (lv' := [(4, .ref q0), (0, .ref (xs 0)), (1, .int a1), (2, .int a2), (3, .int a3)]) hx hb d_Mon_previous_9 hl (by decide) rfl (fun ls hl => ?_)
  refine lv_aload_n hx hb d_Mon_previous_11 rfl (lv_at hl 1 rfl) ?_
  refine lv_iload_n hx hb d_Mon_previous_12 rfl (lv_at hl 4 rfl) ?_
  cases hfl : fmB a3 n
  · refine mm_sq (mm_runV hK ⟨hx, hb, hml, hown⟩ lk_Mon_69 (c_Mon_formulaO l G (xs 0) (xs 1) n v0 v1 v2 (.int (bI wt)) a3 hfl (by omega)) ⟨rfl, rfl, by decide, by decide⟩ (mm_rc hK (pl_1 hP hX) 0 rfl rfl) (pl_cons hP hX (pl_1 hP hla)) rfl hl.1 rfl (Nat.le_of_ble_eq_true rfl) ⟨by decide, by decide⟩ d_Mon_previous_13) (fun r13 e13 => ?_)
    subst e13
    refine lv_astoreN (lv' := [(5, .null), (4, .ref q0), (0, .ref (xs 0)), (1, .int a1), (2, .int a2), (3, .int a3)]) hx hb d_Mon_previous_16 hl (by decide) rfl (fun ls hl => ?_)
    refine lv_aload_n hx hb d_Mon_previous_18 rfl (lv_at hl 2 rfl) ?_
    refine mm_si (mm_runV hK ⟨hx, hb, hml, hown⟩ lk_Mon_47 (c_Mon_isFull l G (xs 0) (xs 1) n v0 v1 v2 wt (by omega)) ⟨rfl, rfl, by decide, by decide⟩ (mm_rc hK (pl_1 hP hX) 0 rfl rfl) (pl_cons hP hX (pl_1 hP hla)) rfl hl.1 rfl (Nat.le_of_ble_eq_true rfl) ⟨by decide, by decide⟩ d_Mon_previous_19) (fun r19 e19 => ?_)
    subst e19
    refine mm_ifneB hx hb d_Mon_previous_22 (tgt := 39) (by decide) (fun c22 => ?_) (fun c22 => ?_)
    · have hfu : mkB wt n = false := by simpa using c22
      refine lv_iconst hx hb d_Mon_previous_39 ci_m1 ?_
      refine lv_goto hx hb d_Mon_previous_40 (tgt := 58) (by decide) ?_
      refine W.widen (k := 4) (n := 49) (by decide) (by decide) ?_
      exact mm_irQ hx hb hr hk hS d_Mon_previous_58 ⟨fun h => absurd h (by intro h; first | exact absurd (hfu.symm.trans h.1) (by decide) | (simp_all; done) | (obtain ⟨h1, h2, h3⟩ := h; simp_all; omega)), fun _ => ⟨rfl, PO_back hLo hP hEE⟩⟩
    · have hfu : mkB wt n = true := by simpa using c22
      have hn12 : n < 12 := (of_decide_eq_true hfu).2
      refine lv_aload hx hb d_Mon_previous_25 (lv_at hl 1 rfl) ?_
      refine lv_iconst hx hb d_Mon_previous_27 ci_0 ?_
      refine mm_ti (y := bI false) (by decide) ?_
      refine mm_si (mm_runV hK ⟨hx, hb, hml, hown⟩ lk_Mon_93 (c_Interval_isGood l G q0 a1 a2 false) ⟨rfl, rfl, by decide, by decide⟩ (mm_rc hK (pl_1 hP hI) 0 rfl rfl) (pl_1 hP hI) rfl hl.1 rfl (Nat.le_of_ble_eq_true rfl) ⟨by decide, by decide⟩ d_Mon_previous_28) (fun r28 e28 => ?_)
      subst e28
      refine mm_ifeqB hx hb d_Mon_previous_31 (tgt := 39) (by decide) (fun c31 => ?_) (fun c31 => ?_)
      · refine lv_iconst hx hb d_Mon_previous_39 ci_m1 ?_
        refine lv_goto hx hb d_Mon_previous_40 (tgt := 58) (by decide) ?_
        refine W.widen (k := 4) (n := 49) (by decide) (by decide) ?_
        exact mm_irQ hx hb hr hk hS d_Mon_previous_58 ⟨fun h => absurd h (by intro h; first | exact absurd (hfu.symm.trans h.1) (by decide) | (simp_all; done) | (obtain ⟨h1, h2, h3⟩ := h; simp_all; omega)), fun _ => ⟨rfl, PO_back hLo hP hEE⟩⟩
      · refine lv_aloadN hx hb d_Mon_previous_34 (lv_at hl 0 rfl) ?_
        refine lv_ifnonnullN hx hb d_Mon_previous_36 ?_
        refine lv_iconst hx hb d_Mon_previous_39 ci_m1 ?_
        refine lv_goto hx hb d_Mon_previous_40 (tgt := 58) (by decide) ?_
        refine W.widen (k := 4) (n := 49) (by decide) (by decide) ?_
        exact mm_irQ hx hb hr hk hS d_Mon_previous_58 ⟨fun h => absurd h (by intro h; first | exact absurd (hfu.symm.trans h.1) (by decide) | (simp_all; done) | (obtain ⟨h1, h2, h3⟩ := h; simp_all; omega)), fun _ => ⟨rfl, PO_back hLo hP hEE⟩⟩
  · obtain ⟨i, rfl, hi, hib⟩ := fm_nat hfl
    obtain ⟨hFl8, hRl8, cl, la0, la1, la5, la6, lx, hcl, hCl⟩ := hE i hi
    obtain ⟨mcnl, capl, gl, g1l, g2l, g3l, g4l, g5l⟩ := hAL.full (by omega)
    refine mm_sq (mm_runV hK ⟨hx, hb, hml, hown⟩ lk_Mon_69 (c_Mon_formulaI l G (xs 0) (xs 1) (xs 5) capl n v1 (.int (bI wt)) mcnl gl i (nd i) cl la0 la1 (.int (nI (FR i))) (.int (nI (RG i))) (.int (bI (CL i))) la5 la6 lx hcl hi g2l g1l (g5l i hi)) ⟨rfl, rfl, by decide, by decide⟩ (mm_rc hK (pl_1 hP hX) 0 rfl rfl) (pl_cons hP hX (pl_cons hP g3l (pl_cons hP g4l (pl_1 hP hCl)))) rfl hl.1 rfl (Nat.le_of_ble_eq_true rfl) ⟨by decide, by decide⟩ d_Mon_previous_13) (fun r13 e13 => ?_)
    subst e13
    refine lv_astore (lv' := [(5, .ref (nd i)), (4, .ref q0), (0, .ref (xs 0)), (1, .int a1), (2, .int a2), (3, .int (nI i))]) hx hb d_Mon_previous_16 hl (by decide) rfl (fun ls hl => ?_)
    refine lv_aload_n hx hb d_Mon_previous_18 rfl (lv_at hl 2 rfl) ?_
    refine mm_si (mm_runV hK ⟨hx, hb, hml, hown⟩ lk_Mon_47 (c_Mon_isFull l G (xs 0) (xs 1) n v0 v1 v2 wt (by omega)) ⟨rfl, rfl, by decide, by decide⟩ (mm_rc hK (pl_1 hP hX) 0 rfl rfl) (pl_cons hP hX (pl_1 hP hla)) rfl hl.1 rfl (Nat.le_of_ble_eq_true rfl) ⟨by decide, by decide⟩ d_Mon_previous_19) (fun r19 e19 => ?_)
    subst e19
    refine mm_ifneB hx hb d_Mon_previous_22 (tgt := 39) (by decide) (fun c22 => ?_) (fun c22 => ?_)
    · have hfu : mkB wt n = false := by simpa using c22
      refine lv_iconst hx hb d_Mon_previous_39 ci_m1 ?_
      refine lv_goto hx hb d_Mon_previous_40 (tgt := 58) (by decide) ?_
      refine W.widen (k := 4) (n := 49) (by decide) (by decide) ?_
      exact mm_irQ hx hb hr hk hS d_Mon_previous_58 ⟨fun h => absurd h (by intro h; first | exact absurd (hfu.symm.trans h.1) (by decide) | (simp_all; done) | (obtain ⟨h1, h2, h3⟩ := h; simp_all; omega)), fun _ => ⟨rfl, PO_back hLo hP hEE⟩⟩
    · have hfu : mkB wt n = true := by simpa using c22
      have hn12 : n < 12 := (of_decide_eq_true hfu).2
      refine lv_aload hx hb d_Mon_previous_25 (lv_at hl 1 rfl) ?_
      refine lv_iconst hx hb d_Mon_previous_27 ci_0 ?_
      refine mm_ti (y := bI false) (by decide) ?_
      refine mm_si (mm_runV hK ⟨hx, hb, hml, hown⟩ lk_Mon_93 (c_Interval_isGood l G q0 a1 a2 false) ⟨rfl, rfl, by decide, by decide⟩ (mm_rc hK (pl_1 hP hI) 0 rfl rfl) (pl_1 hP hI) rfl hl.1 rfl (Nat.le_of_ble_eq_true rfl) ⟨by decide, by decide⟩ d_Mon_previous_28) (fun r28 e28 => ?_)
      subst e28
      refine mm_ifeqB hx hb d_Mon_previous_31 (tgt := 39) (by decide) (fun c31 => ?_) (fun c31 => ?_)
      · refine lv_iconst hx hb d_Mon_previous_39 ci_m1 ?_
        refine lv_goto hx hb d_Mon_previous_40 (tgt := 58) (by decide) ?_
        refine W.widen (k := 4) (n := 49) (by decide) (by decide) ?_
        exact mm_irQ hx hb hr hk hS d_Mon_previous_58 ⟨fun h => absurd h (by intro h; first | exact absurd (hfu.symm.trans h.1) (by decide) | (simp_all; done) | (obtain ⟨h1, h2, h3⟩ := h; simp_all; omega)), fun _ => ⟨rfl, PO_back hLo hP hEE⟩⟩
      · refine lv_aload hx hb d_Mon_previous_34 (lv_at hl 0 rfl) ?_
        refine lv_ifnonnull hx hb d_Mon_previous_36 (tgt := 43) (by decide) ?_
        refine lv_aload_n hx hb d_Mon_previous_43 rfl (lv_at hl 2 rfl) ?_
        refine p_new hK hx hb hown ln_Mon_97 hP hL hS hA (by decide) (by decide) d_Mon_previous_44 (fun q44 H L44 f44 hP hL44 hS hX44 hN44 hq44 _ => ?_)
        refine W.widen (k := 2) (n := 10) (by decide) (by decide) ?_
        have hq44o : q44 ∉ L := fun h => hq44 (hEE _ h).1
        have hCln : q44 ≠ nd i := fun e => hq44 (by rw [e]; exact hCl.1)
        have hCl := hCl.ext hX44
        refine lv_dup hx hb d_Mon_previous_47 rfl ?_
        refine lv_aload hx hb d_Mon_previous_48 (lv_at hl 1 rfl) ?_
        refine lv_aload hx hb d_Mon_previous_50 (lv_at hl 0 rfl) ?_
        have hPc := pl_1 hP hN44
        have hFc := wF (w := [(q44, (.inr (5, [.null, .null, .int 0, .int 0, .int 0, .null, .int 0, .null]) : va_E))]) hL44 hA hS.1 (fa_1 hN44.1)
        refine mm_qv (mm_runI hK ⟨hx, hb, hml, hown⟩ lk_Mon_99 (c_Previous_init l G q44 q0 (nd i) cl hcl la0 la1 la5 la6 (FR i) (RG i) (CL i) lx (wD nd1) (fa_1 (nA_w (fa_1 hCln) (pl_lt hP hCl.1)))) ⟨rfl, rfl, by decide, by decide⟩ ⟨hPc, fun q h => Or.inr h, (pl_1 hP hCl)⟩ rfl hl.1 rfl (Nat.le_of_ble_eq_true rfl) ⟨by decide, by decide⟩ d_Mon_previous_52) hS hFc (fun H1 locs e52 hz1 hk1 hS => ?_)
        obtain ⟨x52_s, hP1, hD1⟩ := e52
        obtain ⟨L52, f52, hP, hL52, k3, k4, k5, _⟩ := pl_join (wo := [(q44, (.inr (5, [.ref (nd i), .null, .int (nI (FR i)), .int (nI (RG i)), .int (bI (CL i)), .ref x52_s, .int 0, .ref q0]) : va_E))]) (wn := [(x52_s, (.inl (G.2.1 1, 24, .inr (.inl (fun _ => 0))) : va_E))]) hP hL44 hk1 hFc hP1 hD1 rfl
        obtain ⟨H, rfl⟩ : ∃ H9, H9 = H1 := ⟨_, rfl⟩
        have hE52 := ext_join hX44 hq44 k3
        have hN52 := k4 _ (List.mem_singleton.mpr rfl) hN44.1 _ (List.mem_singleton.mpr rfl)
        obtain ⟨m52_0, m52_0n⟩ := k5 _ (List.mem_cons_self ..)
        have m52_0o : x52_s ∉ L := fun h => m52_0n (hX44 _ (hEE _ h).1).1
        have hX := hX.ext hE52
        have hla := hla.ext hE52
        have hAL := hAL.ext hE52
        have hE := hE.ext hE52
        have hI := hI.ext hE52
        have hEE := hEE.trans hE52
        have hL := hL52
        refine W.widen (k := 3) (n := 34) (by decide) (by decide) ?_
        refine mm_qi (mn_runV hK hT hS (fun q h => h) ⟨hx, hb, hml, hown⟩ lk_Mon_60 (c_Mon_made l G Z L52 f52 xs n nd v1 (.int (bI wt)) q44 5 [.ref (nd i), .null, .int (nI (FR i)), .int (nI (RG i)), .int (bI (CL i)), .ref x52_s, .int 0, .ref q0] (by decide) hn12 hX hAL hN52 hE.E) ⟨rfl, rfl, by decide, by decide⟩ (mm_rc hK (pl_1 hP hX) 0 rfl rfl) ⟨⟨hP, hL⟩, (fun q h => hA q (Nat.le_trans hS.1 h))⟩ rfl hl.1 rfl (Nat.le_of_ble_eq_true rfl) ⟨by decide, by decide⟩ d_Mon_previous_55) hS (fun q h => h) (fun r55 H locs e55 hz1 hk1 hS => ?_)
        obtain ⟨rfl, L9, f9, ea9, hPO, hAL9, hKP9, hea9⟩ := e55
        refine W.widen (k := 4) (n := 49) (by decide) (by decide) ?_
        exact mm_irQ hx hb hr hk hS d_Mon_previous_58 ⟨fun _ => ⟨rfl, (by rw [cN_nI (k := i) (by omega)]; exact MK_fin (na := na4 q44 x52_s 0 q0) hm hEE hPO hAL9 hKP9 hea9 ⟨⟨hq44o, hN52⟩, ⟨m52_0o, m52_0⟩, fun h => absurd h (by decide), fun _ => ⟨hIo, hI⟩⟩)⟩, fun h => absurd ⟨hfu, c31, hfl⟩ h⟩
set_option maxHeartbeats 4000000 in
set_option maxRecDepth 100000 in
theorem c_Mon_since (l : Launch) (G : mm_G) {A : Nat → Prop} (Z : Nat × Nat) (L : List Nat) (f : Nat → va_E) (xs : Nat → Nat) (n : Nat) (nd FR RG : Nat → Nat) (CL : Nat → Bool) (v1 : Value) (wt : Bool) (hn13 : n ≤ 12) (hX : PLc L f (xs 0) (.inr (10, [.ref (xs 1), v1, .int (bI wt)]))) (hAL : ALf G Z xs n nd L f) (hE : NDS n nd FR RG CL L f) (a1 a2 a3 a4 : Int32) : Met l y_Mon_since [.code y_Mon_since b_Mon_since 8 (some .int)] { frames := 9, cells := 5, slots := 75, locals := 330 } (mn_Pre G A Z [.ref (xs 0), .int a1, .int a2, .int a3, .int a4] (fun H => PO G A L f H ∧ (∀ q, H.size ≤ q → A q))) (mm_Qi (fun r H => (siP wt n true a1 a2 a3 a4 → r = nI n ∧ MK G A Z L f xs n nd 8 (fun na => .inr (6, [.ref (nd (cN a3)), .ref (nd (cN a4)), .int (nI (FR (cN a3) ||| FR (cN a4))), .int (nI (RG (cN a4))), .int (bI (CL (cN a3) && CL (cN a4))), .ref (na 1), .int 0, .ref (na 3), .ref (na 2), .int 0])) a1 a2 H) ∧ (¬ (siP wt n true a1 a2 a3 a4) → r = -1 ∧ PO G A L f H)) A) 5 75 A := by
  refine mn_of (by decide) (Nat.le_of_ble_eq_true rfl) ?_
  intro p e s m below meth c ls hx hb hr hk hml hown hnm hK hT h0 hl
  have hl : lv_has ls 8 [(0, .ref (xs 0)), (1, .int a1), (2, .int a2), (3, .int a3), (4, .int a4)] := hl
  obtain ⟨⟨hP, hL⟩, hA⟩ := h0
  have hS : va_S A s.heap s.heap [] := va_S.rf
  have hLo := hL
  have hEE : EXT L f L f := EXT.rf
  have hm := hAL.mem
  obtain ⟨v0, v2, hla⟩ := hAL.la
  refine p_new hK hx hb hown ln_Mon_88 hP hL hS hA (by decide) (by decide) d_Mon_since_0 (fun q0 H L0 f0 hP hL0 hS hX0 hN0 hq0 _ => ?_)
  refine W.widen (k := 1) (n := 2) (by decide) (by decide) ?_
  have hq0o : q0 ∉ L := fun h => hq0 (hEE _ h).1
  refine lv_dup hx hb d_Mon_since_3 rfl ?_
  refine lv_iload_n hx hb d_Mon_since_4 rfl (lv_at hl 1 rfl) ?_
  refine lv_iload_n hx hb d_Mon_since_5 rfl (lv_at hl 2 rfl) ?_
  have hPc := pl_1 hP hN0
  have hFc := wF (w := [(q0, (.inr (8, [.int 0, .int 0]) : va_E))]) hL0 hA hS.1 (fa_1 hN0.1)
  refine mm_qv (mm_runIN hK ⟨hx, hb, hml, hown⟩ lk_Mon_90 (c_Interval_init l G q0 a1 a2 (wD nd1)) ⟨rfl, rfl, by decide, by decide⟩ hPc rfl hl.1 rfl (Nat.le_of_ble_eq_true rfl) ⟨by decide, by decide⟩ d_Mon_since_6) hS hFc (fun H1 locs e6 hz1 hk1 hS => ?_)
  have hP1 := e6
  have hD1 : va_D (va_A [(q0, (.inr (8, [.int 0, .int 0]) : va_E))] H.size) [(q0, .inr (8, [.int a1, .int a2]))] := mD (wD nd1) rfl
  obtain ⟨L6, f6, hP, hL6, k3, k4, k5, _⟩ := pl_join (wo := [(q0, (.inr (8, [.int a1, .int a2]) : va_E))]) (wn := []) hP hL0 hk1 hFc hP1 hD1 rfl
  obtain ⟨H, rfl⟩ : ∃ H9, H9 = H1 := ⟨_, rfl⟩
  have hE6 := ext_join hX0 hq0 k3
  have hN6 := k4 _ (List.mem_singleton.mpr rfl) hN0.1 _ (List.mem_singleton.mpr rfl)
  have hX := hX.ext hE6
  have hla := hla.ext hE6
  have hAL := hAL.ext hE6
  have hE := hE.ext hE6
  have hEE := hEE.trans hE6
  have hL := hL6
  have hI := hN6
  have hIo := hq0o
  refine lv_astore (lv' := [(5, .ref q0), (0, .ref (xs 0)), (1, .int a1), (2, .int a2), (3, .int a3), (4, .int a4)]) hx hb d_Mon_since_9 hl (by decide) rfl (fun ls hl => ?_)
  refine lv_aload_n hx hb d_Mon_since_11 rfl (lv_at hl 1 rfl) ?_
  refine lv_iload_n hx hb d_Mon_since_12 rfl (lv_at hl 4 rfl) ?_
  cases hfl : fmB a3 n
  · refine mm_sq (mm_runV hK ⟨hx, hb, hml, hown⟩ lk_Mon_69 (c_Mon_formulaO l G (xs 0) (xs 1) n v0 v1 v2 (.int (bI wt)) a3 hfl (by omega)) ⟨rfl, rfl, by decide, by decide⟩ (mm_rc hK (pl_1 hP hX) 0 rfl rfl) (pl_cons hP hX (pl_1 hP hla)) rfl hl.1 rfl (Nat.le_of_ble_eq_true rfl) ⟨by decide, by decide⟩ d_Mon_since_13) (fun r13 e13 => ?_)
    subst e13
    refine lv_astoreN (lv' := [(6, .null), (5, .ref q0), (0, .ref (xs 0)), (1, .int a1), (2, .int a2), (3, .int a3), (4, .int a4)]) hx hb d_Mon_since_16 hl (by decide) rfl (fun ls hl => ?_)
    refine lv_aload_n hx hb d_Mon_since_18 rfl (lv_at hl 2 rfl) ?_
    refine lv_iload hx hb d_Mon_since_19 (lv_at hl 6 rfl) ?_
    cases hfr : fmB a4 n
    · refine mm_sq (mm_runV hK ⟨hx, hb, hml, hown⟩ lk_Mon_69 (c_Mon_formulaO l G (xs 0) (xs 1) n v0 v1 v2 (.int (bI wt)) a4 hfr (by omega)) ⟨rfl, rfl, by decide, by decide⟩ (mm_rc hK (pl_1 hP hX) 0 rfl rfl) (pl_cons hP hX (pl_1 hP hla)) rfl hl.1 rfl (Nat.le_of_ble_eq_true rfl) ⟨by decide, by decide⟩ d_Mon_since_21) (fun r21 e21 => ?_)
      subst e21
      refine lv_astoreN (lv' := [(7, .null), (6, .null), (5, .ref q0), (0, .ref (xs 0)), (1, .int a1), (2, .int a2), (3, .int a3), (4, .int a4)]) hx hb d_Mon_since_24 hl (by decide) rfl (fun ls hl => ?_)
      refine lv_aload_n hx hb d_Mon_since_26 rfl (lv_at hl 3 rfl) ?_
      refine mm_si (mm_runV hK ⟨hx, hb, hml, hown⟩ lk_Mon_47 (c_Mon_isFull l G (xs 0) (xs 1) n v0 v1 v2 wt (by omega)) ⟨rfl, rfl, by decide, by decide⟩ (mm_rc hK (pl_1 hP hX) 0 rfl rfl) (pl_cons hP hX (pl_1 hP hla)) rfl hl.1 rfl (Nat.le_of_ble_eq_true rfl) ⟨by decide, by decide⟩ d_Mon_since_27) (fun r27 e27 => ?_)
      subst e27
      refine mm_ifneB hx hb d_Mon_since_30 (tgt := 52) (by decide) (fun c30 => ?_) (fun c30 => ?_)
      · have hfu : mkB wt n = false := by simpa using c30
        refine lv_iconst hx hb d_Mon_since_52 ci_m1 ?_
        refine lv_goto hx hb d_Mon_since_53 (tgt := 73) (by decide) ?_
        refine W.widen (k := 5) (n := 75) (by decide) (by decide) ?_
        exact mm_irQ hx hb hr hk hS d_Mon_since_73 ⟨fun h => absurd h (by intro h; first | exact absurd (hfu.symm.trans h.1) (by decide) | (simp_all; done) | (obtain ⟨h1, h2, h3⟩ := h; simp_all; omega)), fun _ => ⟨rfl, PO_back hLo hP hEE⟩⟩
      · have hfu : mkB wt n = true := by simpa using c30
        have hn12 : n < 12 := (of_decide_eq_true hfu).2
        refine lv_aload hx hb d_Mon_since_33 (lv_at hl 2 rfl) ?_
        refine lv_iconst hx hb d_Mon_since_35 ci_0 ?_
        refine mm_ti (y := bI false) (by decide) ?_
        refine mm_si (mm_runV hK ⟨hx, hb, hml, hown⟩ lk_Mon_93 (c_Interval_isGood l G q0 a1 a2 false) ⟨rfl, rfl, by decide, by decide⟩ (mm_rc hK (pl_1 hP hI) 0 rfl rfl) (pl_1 hP hI) rfl hl.1 rfl (Nat.le_of_ble_eq_true rfl) ⟨by decide, by decide⟩ d_Mon_since_36) (fun r36 e36 => ?_)
        subst e36
        refine mm_ifeqB hx hb d_Mon_since_39 (tgt := 52) (by decide) (fun c39 => ?_) (fun c39 => ?_)
        · refine lv_iconst hx hb d_Mon_since_52 ci_m1 ?_
          refine lv_goto hx hb d_Mon_since_53 (tgt := 73) (by decide) ?_
          refine W.widen (k := 5) (n := 75) (by decide) (by decide) ?_
          exact mm_irQ hx hb hr hk hS d_Mon_since_73 ⟨fun h => absurd h (by intro h; first | exact absurd (hfu.symm.trans h.1) (by decide) | (simp_all; done) | (obtain ⟨h1, h2, h3⟩ := h; simp_all; omega)), fun _ => ⟨rfl, PO_back hLo hP hEE⟩⟩
        · refine lv_aloadN hx hb d_Mon_since_42 (lv_at hl 1 rfl) ?_
          refine lv_ifnullN hx hb d_Mon_since_44 (tgt := 52) (by decide) ?_
          refine lv_iconst hx hb d_Mon_since_52 ci_m1 ?_
          refine lv_goto hx hb d_Mon_since_53 (tgt := 73) (by decide) ?_
          refine W.widen (k := 5) (n := 75) (by decide) (by decide) ?_
          exact mm_irQ hx hb hr hk hS d_Mon_since_73 ⟨fun h => absurd h (by intro h; first | exact absurd (hfu.symm.trans h.1) (by decide) | (simp_all; done) | (obtain ⟨h1, h2, h3⟩ := h; simp_all; omega)), fun _ => ⟨rfl, PO_back hLo hP hEE⟩⟩
    · obtain ⟨j, rfl, hj, hjb⟩ := fm_nat hfr
      obtain ⟨hFr8, hRr8, cr, ra0, ra1, ra5, ra6, rx, hcr, hCr⟩ := hE j hj
      obtain ⟨mcnr, capr, gr, g1r, g2r, g3r, g4r, g5r⟩ := hAL.full (by omega)
      refine mm_sq (mm_runV hK ⟨hx, hb, hml, hown⟩ lk_Mon_69 (c_Mon_formulaI l G (xs 0) (xs 1) (xs 5) capr n v1 (.int (bI wt)) mcnr gr j (nd j) cr ra0 ra1 (.int (nI (FR j))) (.int (nI (RG j))) (.int (bI (CL j))) ra5 ra6 rx hcr hj g2r g1r (g5r j hj)) ⟨rfl, rfl, by decide, by decide⟩ (mm_rc hK (pl_1 hP hX) 0 rfl rfl) (pl_cons hP hX (pl_cons hP g3r (pl_cons hP g4r (pl_1 hP hCr)))) rfl hl.1 rfl (Nat.le_of_ble_eq_true rfl) ⟨by decide, by decide⟩ d_Mon_since_21) (fun r21 e21 => ?_)
      subst e21
      refine lv_astore (lv' := [(7, .ref (nd j)), (6, .null), (5, .ref q0), (0, .ref (xs 0)), (1, .int a1), (2, .int a2), (3, .int a3), (4, .int (nI j))]) hx hb d_Mon_since_24 hl (by decide) rfl (fun ls hl => ?_)
      refine lv_aload_n hx hb d_Mon_since_26 rfl (lv_at hl 3 rfl) ?_
      refine mm_si (mm_runV hK ⟨hx, hb, hml, hown⟩ lk_Mon_47 (c_Mon_isFull l G (xs 0) (xs 1) n v0 v1 v2 wt (by omega)) ⟨rfl, rfl, by decide, by decide⟩ (mm_rc hK (pl_1 hP hX) 0 rfl rfl) (pl_cons hP hX (pl_1 hP hla)) rfl hl.1 rfl (Nat.le_of_ble_eq_true rfl) ⟨by decide, by decide⟩ d_Mon_since_27) (fun r27 e27 => ?_)
      subst e27
      refine mm_ifneB hx hb d_Mon_since_30 (tgt := 52) (by decide) (fun c30 => ?_) (fun c30 => ?_)
      · have hfu : mkB wt n = false := by simpa using c30
        refine lv_iconst hx hb d_Mon_since_52 ci_m1 ?_
        refine lv_goto hx hb d_Mon_since_53 (tgt := 73) (by decide) ?_
        refine W.widen (k := 5) (n := 75) (by decide) (by decide) ?_
        exact mm_irQ hx hb hr hk hS d_Mon_since_73 ⟨fun h => absurd h (by intro h; first | exact absurd (hfu.symm.trans h.1) (by decide) | (simp_all; done) | (obtain ⟨h1, h2, h3⟩ := h; simp_all; omega)), fun _ => ⟨rfl, PO_back hLo hP hEE⟩⟩
      · have hfu : mkB wt n = true := by simpa using c30
        have hn12 : n < 12 := (of_decide_eq_true hfu).2
        refine lv_aload hx hb d_Mon_since_33 (lv_at hl 2 rfl) ?_
        refine lv_iconst hx hb d_Mon_since_35 ci_0 ?_
        refine mm_ti (y := bI false) (by decide) ?_
        refine mm_si (mm_runV hK ⟨hx, hb, hml, hown⟩ lk_Mon_93 (c_Interval_isGood l G q0 a1 a2 false) ⟨rfl, rfl, by decide, by decide⟩ (mm_rc hK (pl_1 hP hI) 0 rfl rfl) (pl_1 hP hI) rfl hl.1 rfl (Nat.le_of_ble_eq_true rfl) ⟨by decide, by decide⟩ d_Mon_since_36) (fun r36 e36 => ?_)
        subst e36
        refine mm_ifeqB hx hb d_Mon_since_39 (tgt := 52) (by decide) (fun c39 => ?_) (fun c39 => ?_)
        · refine lv_iconst hx hb d_Mon_since_52 ci_m1 ?_
          refine lv_goto hx hb d_Mon_since_53 (tgt := 73) (by decide) ?_
          refine W.widen (k := 5) (n := 75) (by decide) (by decide) ?_
          exact mm_irQ hx hb hr hk hS d_Mon_since_73 ⟨fun h => absurd h (by intro h; first | exact absurd (hfu.symm.trans h.1) (by decide) | (simp_all; done) | (obtain ⟨h1, h2, h3⟩ := h; simp_all; omega)), fun _ => ⟨rfl, PO_back hLo hP hEE⟩⟩
        · refine lv_aloadN hx hb d_Mon_since_42 (lv_at hl 1 rfl) ?_
          refine lv_ifnullN hx hb d_Mon_since_44 (tgt := 52) (by decide) ?_
          refine lv_iconst hx hb d_Mon_since_52 ci_m1 ?_
          refine lv_goto hx hb d_Mon_since_53 (tgt := 73) (by decide) ?_
          refine W.widen (k := 5) (n := 75) (by decide) (by decide) ?_
          exact mm_irQ hx hb hr hk hS d_Mon_since_73 ⟨fun h => absurd h (by intro h; first | exact absurd (hfu.symm.trans h.1) (by decide) | (simp_all; done) | (obtain ⟨h1, h2, h3⟩ := h; simp_all; omega)), fun _ => ⟨rfl, PO_back hLo hP hEE⟩⟩
  · obtain ⟨i, rfl, hi, hib⟩ := fm_nat hfl
    obtain ⟨hFl8, hRl8, cl, la0, la1, la5, la6, lx, hcl, hCl⟩ := hE i hi
    obtain ⟨mcnl, capl, gl, g1l, g2l, g3l, g4l, g5l⟩ := hAL.full (by omega)
    refine mm_sq (mm_runV hK ⟨hx, hb, hml, hown⟩ lk_Mon_69 (c_Mon_formulaI l G (xs 0) (xs 1) (xs 5) capl n v1 (.int (bI wt)) mcnl gl i (nd i) cl la0 la1 (.int (nI (FR i))) (.int (nI (RG i))) (.int (bI (CL i))) la5 la6 lx hcl hi g2l g1l (g5l i hi)) ⟨rfl, rfl, by decide, by decide⟩ (mm_rc hK (pl_1 hP hX) 0 rfl rfl) (pl_cons hP hX (pl_cons hP g3l (pl_cons hP g4l (pl_1 hP hCl)))) rfl hl.1 rfl (Nat.le_of_ble_eq_true rfl) ⟨by decide, by decide⟩ d_Mon_since_13) (fun r13 e13 => ?_)
    subst e13
    refine lv_astore (lv' := [(6, .ref (nd i)), (5, .ref q0), (0, .ref (xs 0)), (1, .int a1), (2, .int a2), (3, .int (nI i)), (4, .int a4)]) hx hb d_Mon_since_16 hl (by decide) rfl (fun ls hl => ?_)
    refine lv_aload_n hx hb d_Mon_since_18 rfl (lv_at hl 2 rfl) ?_
    refine lv_iload hx hb d_Mon_since_19 (lv_at hl 6 rfl) ?_
    cases hfr : fmB a4 n
    · refine mm_sq (mm_runV hK ⟨hx, hb, hml, hown⟩ lk_Mon_69 (c_Mon_formulaO l G (xs 0) (xs 1) n v0 v1 v2 (.int (bI wt)) a4 hfr (by omega)) ⟨rfl, rfl, by decide, by decide⟩ (mm_rc hK (pl_1 hP hX) 0 rfl rfl) (pl_cons hP hX (pl_1 hP hla)) rfl hl.1 rfl (Nat.le_of_ble_eq_true rfl) ⟨by decide, by decide⟩ d_Mon_since_21) (fun r21 e21 => ?_)
      subst e21
      refine lv_astoreN (lv' := [(7, .null), (6, .ref (nd i)), (5, .ref q0), (0, .ref (xs 0)), (1, .int a1), (2, .int a2), (3, .int (nI i)), (4, .int a4)]) hx hb d_Mon_since_24 hl (by decide) rfl (fun ls hl => ?_)
      refine lv_aload_n hx hb d_Mon_since_26 rfl (lv_at hl 3 rfl) ?_
      refine mm_si (mm_runV hK ⟨hx, hb, hml, hown⟩ lk_Mon_47 (c_Mon_isFull l G (xs 0) (xs 1) n v0 v1 v2 wt (by omega)) ⟨rfl, rfl, by decide, by decide⟩ (mm_rc hK (pl_1 hP hX) 0 rfl rfl) (pl_cons hP hX (pl_1 hP hla)) rfl hl.1 rfl (Nat.le_of_ble_eq_true rfl) ⟨by decide, by decide⟩ d_Mon_since_27) (fun r27 e27 => ?_)
      subst e27
      refine mm_ifneB hx hb d_Mon_since_30 (tgt := 52) (by decide) (fun c30 => ?_) (fun c30 => ?_)
      · have hfu : mkB wt n = false := by simpa using c30
        refine lv_iconst hx hb d_Mon_since_52 ci_m1 ?_
        refine lv_goto hx hb d_Mon_since_53 (tgt := 73) (by decide) ?_
        refine W.widen (k := 5) (n := 75) (by decide) (by decide) ?_
        exact mm_irQ hx hb hr hk hS d_Mon_since_73 ⟨fun h => absurd h (by intro h; first | exact absurd (hfu.symm.trans h.1) (by decide) | (simp_all; done) | (obtain ⟨h1, h2, h3⟩ := h; simp_all; omega)), fun _ => ⟨rfl, PO_back hLo hP hEE⟩⟩
      · have hfu : mkB wt n = true := by simpa using c30
        have hn12 : n < 12 := (of_decide_eq_true hfu).2
        refine lv_aload hx hb d_Mon_since_33 (lv_at hl 2 rfl) ?_
        refine lv_iconst hx hb d_Mon_since_35 ci_0 ?_
        refine mm_ti (y := bI false) (by decide) ?_
        refine mm_si (mm_runV hK ⟨hx, hb, hml, hown⟩ lk_Mon_93 (c_Interval_isGood l G q0 a1 a2 false) ⟨rfl, rfl, by decide, by decide⟩ (mm_rc hK (pl_1 hP hI) 0 rfl rfl) (pl_1 hP hI) rfl hl.1 rfl (Nat.le_of_ble_eq_true rfl) ⟨by decide, by decide⟩ d_Mon_since_36) (fun r36 e36 => ?_)
        subst e36
        refine mm_ifeqB hx hb d_Mon_since_39 (tgt := 52) (by decide) (fun c39 => ?_) (fun c39 => ?_)
        · refine lv_iconst hx hb d_Mon_since_52 ci_m1 ?_
          refine lv_goto hx hb d_Mon_since_53 (tgt := 73) (by decide) ?_
          refine W.widen (k := 5) (n := 75) (by decide) (by decide) ?_
          exact mm_irQ hx hb hr hk hS d_Mon_since_73 ⟨fun h => absurd h (by intro h; first | exact absurd (hfu.symm.trans h.1) (by decide) | (simp_all; done) | (obtain ⟨h1, h2, h3⟩ := h; simp_all; omega)), fun _ => ⟨rfl, PO_back hLo hP hEE⟩⟩
        · refine lv_aload hx hb d_Mon_since_42 (lv_at hl 1 rfl) ?_
          refine lv_ifnull hx hb d_Mon_since_44 ?_
          refine lv_aloadN hx hb d_Mon_since_47 (lv_at hl 0 rfl) ?_
          refine lv_ifnonnullN hx hb d_Mon_since_49 ?_
          refine lv_iconst hx hb d_Mon_since_52 ci_m1 ?_
          refine lv_goto hx hb d_Mon_since_53 (tgt := 73) (by decide) ?_
          refine W.widen (k := 5) (n := 75) (by decide) (by decide) ?_
          exact mm_irQ hx hb hr hk hS d_Mon_since_73 ⟨fun h => absurd h (by intro h; first | exact absurd (hfu.symm.trans h.1) (by decide) | (simp_all; done) | (obtain ⟨h1, h2, h3⟩ := h; simp_all; omega)), fun _ => ⟨rfl, PO_back hLo hP hEE⟩⟩
    · obtain ⟨j, rfl, hj, hjb⟩ := fm_nat hfr
      obtain ⟨hFr8, hRr8, cr, ra0, ra1, ra5, ra6, rx, hcr, hCr⟩ := hE j hj
      obtain ⟨mcnr, capr, gr, g1r, g2r, g3r, g4r, g5r⟩ := hAL.full (by omega)
      refine mm_sq (mm_runV hK ⟨hx, hb, hml, hown⟩ lk_Mon_69 (c_Mon_formulaI l G (xs 0) (xs 1) (xs 5) capr n v1 (.int (bI wt)) mcnr gr j (nd j) cr ra0 ra1 (.int (nI (FR j))) (.int (nI (RG j))) (.int (bI (CL j))) ra5 ra6 rx hcr hj g2r g1r (g5r j hj)) ⟨rfl, rfl, by decide, by decide⟩ (mm_rc hK (pl_1 hP hX) 0 rfl rfl) (pl_cons hP hX (pl_cons hP g3r (pl_cons hP g4r (pl_1 hP hCr)))) rfl hl.1 rfl (Nat.le_of_ble_eq_true rfl) ⟨by decide, by decide⟩ d_Mon_since_21) (fun r21 e21 => ?_)
      subst e21
      refine lv_astore (lv' := [(7, .ref (nd j)), (6, .ref (nd i)), (5, .ref q0), (0, .ref (xs 0)), (1, .int a1), (2, .int a2), (3, .int (nI i)), (4, .int (nI j))]) hx hb d_Mon_since_24 hl (by decide) rfl (fun ls hl => ?_)
      refine lv_aload_n hx hb d_Mon_since_26 rfl (lv_at hl 3 rfl) ?_
      refine mm_si (mm_runV hK ⟨hx, hb, hml, hown⟩ lk_Mon_47 (c_Mon_isFull l G (xs 0) (xs 1) n v0 v1 v2 wt (by omega)) ⟨rfl, rfl, by decide, by decide⟩ (mm_rc hK (pl_1 hP hX) 0 rfl rfl) (pl_cons hP hX (pl_1 hP hla)) rfl hl.1 rfl (Nat.le_of_ble_eq_true rfl) ⟨by decide, by decide⟩ d_Mon_since_27) (fun r27 e27 => ?_)
      subst e27
      refine mm_ifneB hx hb d_Mon_since_30 (tgt := 52) (by decide) (fun c30 => ?_) (fun c30 => ?_)
      · have hfu : mkB wt n = false := by simpa using c30
        refine lv_iconst hx hb d_Mon_since_52 ci_m1 ?_
        refine lv_goto hx hb d_Mon_since_53 (tgt := 73) (by decide) ?_
        refine W.widen (k := 5) (n := 75) (by decide) (by decide) ?_
        exact mm_irQ hx hb hr hk hS d_Mon_since_73 ⟨fun h => absurd h (by intro h; first | exact absurd (hfu.symm.trans h.1) (by decide) | (simp_all; done) | (obtain ⟨h1, h2, h3⟩ := h; simp_all; omega)), fun _ => ⟨rfl, PO_back hLo hP hEE⟩⟩
      · have hfu : mkB wt n = true := by simpa using c30
        have hn12 : n < 12 := (of_decide_eq_true hfu).2
        refine lv_aload hx hb d_Mon_since_33 (lv_at hl 2 rfl) ?_
        refine lv_iconst hx hb d_Mon_since_35 ci_0 ?_
        refine mm_ti (y := bI false) (by decide) ?_
        refine mm_si (mm_runV hK ⟨hx, hb, hml, hown⟩ lk_Mon_93 (c_Interval_isGood l G q0 a1 a2 false) ⟨rfl, rfl, by decide, by decide⟩ (mm_rc hK (pl_1 hP hI) 0 rfl rfl) (pl_1 hP hI) rfl hl.1 rfl (Nat.le_of_ble_eq_true rfl) ⟨by decide, by decide⟩ d_Mon_since_36) (fun r36 e36 => ?_)
        subst e36
        refine mm_ifeqB hx hb d_Mon_since_39 (tgt := 52) (by decide) (fun c39 => ?_) (fun c39 => ?_)
        · refine lv_iconst hx hb d_Mon_since_52 ci_m1 ?_
          refine lv_goto hx hb d_Mon_since_53 (tgt := 73) (by decide) ?_
          refine W.widen (k := 5) (n := 75) (by decide) (by decide) ?_
          exact mm_irQ hx hb hr hk hS d_Mon_since_73 ⟨fun h => absurd h (by intro h; first | exact absurd (hfu.symm.trans h.1) (by decide) | (simp_all; done) | (obtain ⟨h1, h2, h3⟩ := h; simp_all; omega)), fun _ => ⟨rfl, PO_back hLo hP hEE⟩⟩
        · refine lv_aload hx hb d_Mon_since_42 (lv_at hl 1 rfl) ?_
          refine lv_ifnull hx hb d_Mon_since_44 ?_
          refine lv_aload hx hb d_Mon_since_47 (lv_at hl 0 rfl) ?_
          refine lv_ifnonnull hx hb d_Mon_since_49 (tgt := 56) (by decide) ?_
          refine lv_aload_n hx hb d_Mon_since_56 rfl (lv_at hl 3 rfl) ?_
          refine p_new hK hx hb hown ln_Mon_102 hP hL hS hA (by decide) (by decide) d_Mon_since_57 (fun q57 H L57 f57 hP hL57 hS hX57 hN57 hq57 _ => ?_)
          refine W.widen (k := 2) (n := 12) (by decide) (by decide) ?_
          have hq57o : q57 ∉ L := fun h => hq57 (hEE _ h).1
          have hCln : q57 ≠ nd i := fun e => hq57 (by rw [e]; exact hCl.1)
          have hCl := hCl.ext hX57
          have hCrn : q57 ≠ nd j := fun e => hq57 (by rw [e]; exact hCr.1)
          have hCr := hCr.ext hX57
          refine lv_dup hx hb d_Mon_since_60 rfl ?_
          refine lv_aload hx hb d_Mon_since_61 (lv_at hl 2 rfl) ?_
          refine lv_aload hx hb d_Mon_since_63 (lv_at hl 1 rfl) ?_
          refine lv_aload hx hb d_Mon_since_65 (lv_at hl 0 rfl) ?_
          have hPc := pl_1 hP hN57
          have hFc := wF (w := [(q57, (.inr (6, [.null, .null, .int 0, .int 0, .int 0, .null, .int 0, .null, .null, .int 0]) : va_E))]) hL57 hA hS.1 (fa_1 hN57.1)
          refine mm_qv (mm_runI hK ⟨hx, hb, hml, hown⟩ lk_Mon_104 (c_Since_init l G q57 q0 (nd i) cl hcl la0 la1 la5 la6 (FR i) (RG i) (CL i) lx (nd j) cr hcr ra0 ra1 ra5 ra6 (FR j) (RG j) (CL j) rx hFl8 hFr8 (wD nd1) (fa_2 (nA_w (fa_1 hCln) (pl_lt hP hCl.1)) (nA_w (fa_1 hCrn) (pl_lt hP hCr.1)))) ⟨rfl, rfl, by decide, by decide⟩ ⟨hPc, fun q h => Or.inr h, (pl_cons hP hCl (pl_1 hP hCr))⟩ rfl hl.1 rfl (Nat.le_of_ble_eq_true rfl) ⟨by decide, by decide⟩ d_Mon_since_67) hS hFc (fun H1 locs e67 hz1 hk1 hS => ?_)
          obtain ⟨x67_s, x67_x, hP1, hD1⟩ := e67
          have hne : x67_x ≠ x67_s := fun e => absurd (hD1.1 2 1 _ _ rfl rfl e) (by decide)
          obtain ⟨L67, f67, hP, hL67, k3, k4, k5, _⟩ := pl_join (wo := [(q57, (.inr (6, [.ref (nd i), .ref (nd j), .int (nI (FR i ||| FR j)), .int (nI (RG j)), .int (bI (CL i && CL j)), .ref x67_s, .int 0, .ref q0, .ref x67_x, .int 0]) : va_E))]) (wn := [(x67_s, (.inl (G.2.1 1, 24, .inr (.inl (fun _ => 0))) : va_E)), (x67_x, (.inl (G.2.1 1, 24, .inr (.inl (fun _ => 0))) : va_E))]) hP hL57 hk1 hFc hP1 hD1 rfl
          obtain ⟨H, rfl⟩ : ∃ H9, H9 = H1 := ⟨_, rfl⟩
          have hE67 := ext_join hX57 hq57 k3
          have hN67 := k4 _ (List.mem_singleton.mpr rfl) hN57.1 _ (List.mem_singleton.mpr rfl)
          obtain ⟨m67_0, m67_0n⟩ := k5 _ (List.mem_cons_self ..)
          have m67_0o : x67_s ∉ L := fun h => m67_0n (hX57 _ (hEE _ h).1).1
          obtain ⟨m67_1, m67_1n⟩ := k5 _ (List.mem_cons_of_mem _ (List.mem_cons_self ..))
          have m67_1o : x67_x ∉ L := fun h => m67_1n (hX57 _ (hEE _ h).1).1
          have hX := hX.ext hE67
          have hla := hla.ext hE67
          have hAL := hAL.ext hE67
          have hE := hE.ext hE67
          have hI := hI.ext hE67
          have hEE := hEE.trans hE67
          have hL := hL67
          refine W.widen (k := 4) (n := 60) (by decide) (by decide) ?_
          refine mm_qi (mn_runV hK hT hS (fun q h => h) ⟨hx, hb, hml, hown⟩ lk_Mon_60 (c_Mon_made l G Z L67 f67 xs n nd v1 (.int (bI wt)) q57 6 [.ref (nd i), .ref (nd j), .int (nI (FR i ||| FR j)), .int (nI (RG j)), .int (bI (CL i && CL j)), .ref x67_s, .int 0, .ref q0, .ref x67_x, .int 0] (by decide) hn12 hX hAL hN67 hE.E) ⟨rfl, rfl, by decide, by decide⟩ (mm_rc hK (pl_1 hP hX) 0 rfl rfl) ⟨⟨hP, hL⟩, (fun q h => hA q (Nat.le_trans hS.1 h))⟩ rfl hl.1 rfl (Nat.le_of_ble_eq_true rfl) ⟨by decide, by decide⟩ d_Mon_since_70) hS (fun q h => h) (fun r70 H locs e70 hz1 hk1 hS => ?_)
          obtain ⟨rfl, L9, f9, ea9, hPO, hAL9, hKP9, hea9⟩ := e70
          refine W.widen (k := 5) (n := 75) (by decide) (by decide) ?_
          exact mm_irQ hx hb hr hk hS d_Mon_since_73 ⟨fun _ => ⟨rfl, (by rw [cN_nI (k := i) (by omega), cN_nI (k := j) (by omega)]; exact MK_fin (na := na4 q57 x67_s x67_x q0) hm hEE hPO hAL9 hKP9 hea9 ⟨⟨hq57o, hN67⟩, ⟨m67_0o, m67_0⟩, fun _ => ⟨m67_1o, hne, m67_1⟩, fun _ => ⟨hIo, hI⟩⟩)⟩, fun h => absurd ⟨hfu, c39, hfl, hfr⟩ h⟩
set_option maxHeartbeats 4000000 in
set_option maxRecDepth 100000 in
theorem c_Mon_until (l : Launch) (G : mm_G) {A : Nat → Prop} (Z : Nat × Nat) (L : List Nat) (f : Nat → va_E) (xs : Nat → Nat) (n : Nat) (nd FR RG : Nat → Nat) (CL : Nat → Bool) (v1 : Value) (wt : Bool) (hn13 : n ≤ 12) (hX : PLc L f (xs 0) (.inr (10, [.ref (xs 1), v1, .int (bI wt)]))) (hAL : ALf G Z xs n nd L f) (hE : NDS n nd FR RG CL L f) (a1 a2 a3 a4 : Int32) : Met l y_Mon_until [.code y_Mon_until b_Mon_until 8 (some .int)] { frames := 9, cells := 5, slots := 75, locals := 330 } (mn_Pre G A Z [.ref (xs 0), .int a1, .int a2, .int a3, .int a4] (fun H => PO G A L f H ∧ (∀ q, H.size ≤ q → A q))) (mm_Qi (fun r H => (siP wt n false a1 a2 a3 a4 → r = nI n ∧ MK G A Z L f xs n nd 9 (fun na => .inr (7, [.ref (nd (cN a3)), .ref (nd (cN a4)), .int (nI (FR (cN a3) ||| FR (cN a4))), .int (nI (RG (cN a4))), .int (bI (CL (cN a3) && CL (cN a4))), .ref (na 1), .int 0, .ref (na 3), .ref (na 2), .int 0])) a1 a2 H) ∧ (¬ (siP wt n false a1 a2 a3 a4) → r = -1 ∧ PO G A L f H)) A) 5 75 A := by
  refine mn_of (by decide) (Nat.le_of_ble_eq_true rfl) ?_
  intro p e s m below meth c ls hx hb hr hk hml hown hnm hK hT h0 hl
  have hl : lv_has ls 8 [(0, .ref (xs 0)), (1, .int a1), (2, .int a2), (3, .int a3), (4, .int a4)] := hl
  obtain ⟨⟨hP, hL⟩, hA⟩ := h0
  have hS : va_S A s.heap s.heap [] := va_S.rf
  have hLo := hL
  have hEE : EXT L f L f := EXT.rf
  have hm := hAL.mem
  obtain ⟨v0, v2, hla⟩ := hAL.la
  refine p_new hK hx hb hown ln_Mon_88 hP hL hS hA (by decide) (by decide) d_Mon_until_0 (fun q0 H L0 f0 hP hL0 hS hX0 hN0 hq0 _ => ?_)
  refine W.widen (k := 1) (n := 2) (by decide) (by decide) ?_
  have hq0o : q0 ∉ L := fun h => hq0 (hEE _ h).1
  refine lv_dup hx hb d_Mon_until_3 rfl ?_
  refine lv_iload_n hx hb d_Mon_until_4 rfl (lv_at hl 1 rfl) ?_
  refine lv_iload_n hx hb d_Mon_until_5 rfl (lv_at hl 2 rfl) ?_
  have hPc := pl_1 hP hN0
  have hFc := wF (w := [(q0, (.inr (8, [.int 0, .int 0]) : va_E))]) hL0 hA hS.1 (fa_1 hN0.1)
  refine mm_qv (mm_runIN hK ⟨hx, hb, hml, hown⟩ lk_Mon_90 (c_Interval_init l G q0 a1 a2 (wD nd1)) ⟨rfl, rfl, by decide, by decide⟩ hPc rfl hl.1 rfl (Nat.le_of_ble_eq_true rfl) ⟨by decide, by decide⟩ d_Mon_until_6) hS hFc (fun H1 locs e6 hz1 hk1 hS => ?_)
  have hP1 := e6
  have hD1 : va_D (va_A [(q0, (.inr (8, [.int 0, .int 0]) : va_E))] H.size) [(q0, .inr (8, [.int a1, .int a2]))] := mD (wD nd1) rfl
  obtain ⟨L6, f6, hP, hL6, k3, k4, k5, _⟩ := pl_join (wo := [(q0, (.inr (8, [.int a1, .int a2]) : va_E))]) (wn := []) hP hL0 hk1 hFc hP1 hD1 rfl
  obtain ⟨H, rfl⟩ : ∃ H9, H9 = H1 := ⟨_, rfl⟩
  have hE6 := ext_join hX0 hq0 k3
  have hN6 := k4 _ (List.mem_singleton.mpr rfl) hN0.1 _ (List.mem_singleton.mpr rfl)
  have hX := hX.ext hE6
  have hla := hla.ext hE6
  have hAL := hAL.ext hE6
  have hE := hE.ext hE6
  have hEE := hEE.trans hE6
  have hL := hL6
  have hI := hN6
  have hIo := hq0o
  refine lv_astore (lv' := [(5, .ref q0), (0, .ref (xs 0)), (1, .int a1), (2, .int a2), (3, .int a3), (4, .int a4)]) hx hb d_Mon_until_9 hl (by decide) rfl (fun ls hl => ?_)
  refine lv_aload_n hx hb d_Mon_until_11 rfl (lv_at hl 1 rfl) ?_
  refine lv_iload_n hx hb d_Mon_until_12 rfl (lv_at hl 4 rfl) ?_
  cases hfl : fmB a3 n
  · refine mm_sq (mm_runV hK ⟨hx, hb, hml, hown⟩ lk_Mon_69 (c_Mon_formulaO l G (xs 0) (xs 1) n v0 v1 v2 (.int (bI wt)) a3 hfl (by omega)) ⟨rfl, rfl, by decide, by decide⟩ (mm_rc hK (pl_1 hP hX) 0 rfl rfl) (pl_cons hP hX (pl_1 hP hla)) rfl hl.1 rfl (Nat.le_of_ble_eq_true rfl) ⟨by decide, by decide⟩ d_Mon_until_13) (fun r13 e13 => ?_)
    subst e13
    refine lv_astoreN (lv' := [(6, .null), (5, .ref q0), (0, .ref (xs 0)), (1, .int a1), (2, .int a2), (3, .int a3), (4, .int a4)]) hx hb d_Mon_until_16 hl (by decide) rfl (fun ls hl => ?_)
    refine lv_aload_n hx hb d_Mon_until_18 rfl (lv_at hl 2 rfl) ?_
    refine lv_iload hx hb d_Mon_until_19 (lv_at hl 6 rfl) ?_
    cases hfr : fmB a4 n
    · refine mm_sq (mm_runV hK ⟨hx, hb, hml, hown⟩ lk_Mon_69 (c_Mon_formulaO l G (xs 0) (xs 1) n v0 v1 v2 (.int (bI wt)) a4 hfr (by omega)) ⟨rfl, rfl, by decide, by decide⟩ (mm_rc hK (pl_1 hP hX) 0 rfl rfl) (pl_cons hP hX (pl_1 hP hla)) rfl hl.1 rfl (Nat.le_of_ble_eq_true rfl) ⟨by decide, by decide⟩ d_Mon_until_21) (fun r21 e21 => ?_)
      subst e21
      refine lv_astoreN (lv' := [(7, .null), (6, .null), (5, .ref q0), (0, .ref (xs 0)), (1, .int a1), (2, .int a2), (3, .int a3), (4, .int a4)]) hx hb d_Mon_until_24 hl (by decide) rfl (fun ls hl => ?_)
      refine lv_aload_n hx hb d_Mon_until_26 rfl (lv_at hl 3 rfl) ?_
      refine mm_si (mm_runV hK ⟨hx, hb, hml, hown⟩ lk_Mon_47 (c_Mon_isFull l G (xs 0) (xs 1) n v0 v1 v2 wt (by omega)) ⟨rfl, rfl, by decide, by decide⟩ (mm_rc hK (pl_1 hP hX) 0 rfl rfl) (pl_cons hP hX (pl_1 hP hla)) rfl hl.1 rfl (Nat.le_of_ble_eq_true rfl) ⟨by decide, by decide⟩ d_Mon_until_27) (fun r27 e27 => ?_)
      subst e27
      refine mm_ifneB hx hb d_Mon_until_30 (tgt := 52) (by decide) (fun c30 => ?_) (fun c30 => ?_)
      · have hfu : mkB wt n = false := by simpa using c30
        refine lv_iconst hx hb d_Mon_until_52 ci_m1 ?_
        refine lv_goto hx hb d_Mon_until_53 (tgt := 73) (by decide) ?_
        refine W.widen (k := 5) (n := 75) (by decide) (by decide) ?_
        exact mm_irQ hx hb hr hk hS d_Mon_until_73 ⟨fun h => absurd h (by intro h; first | exact absurd (hfu.symm.trans h.1) (by decide) | (simp_all; done) | (obtain ⟨h1, h2, h3⟩ := h; simp_all; omega)), fun _ => ⟨rfl, PO_back hLo hP hEE⟩⟩
      · have hfu : mkB wt n = true := by simpa using c30
        have hn12 : n < 12 := (of_decide_eq_true hfu).2
        refine lv_aload hx hb d_Mon_until_33 (lv_at hl 2 rfl) ?_
        refine lv_iconst hx hb d_Mon_until_35 ci_1 ?_
        refine mm_ti (y := bI true) (by decide) ?_
        refine mm_si (mm_runV hK ⟨hx, hb, hml, hown⟩ lk_Mon_93 (c_Interval_isGood l G q0 a1 a2 true) ⟨rfl, rfl, by decide, by decide⟩ (mm_rc hK (pl_1 hP hI) 0 rfl rfl) (pl_1 hP hI) rfl hl.1 rfl (Nat.le_of_ble_eq_true rfl) ⟨by decide, by decide⟩ d_Mon_until_36) (fun r36 e36 => ?_)
        subst e36
        refine mm_ifeqB hx hb d_Mon_until_39 (tgt := 52) (by decide) (fun c39 => ?_) (fun c39 => ?_)
        · refine lv_iconst hx hb d_Mon_until_52 ci_m1 ?_
          refine lv_goto hx hb d_Mon_until_53 (tgt := 73) (by decide) ?_
          refine W.widen (k := 5) (n := 75) (by decide) (by decide) ?_
          exact mm_irQ hx hb hr hk hS d_Mon_until_73 ⟨fun h => absurd h (by intro h; first | exact absurd (hfu.symm.trans h.1) (by decide) | (simp_all; done) | (obtain ⟨h1, h2, h3⟩ := h; simp_all; omega)), fun _ => ⟨rfl, PO_back hLo hP hEE⟩⟩
        · refine lv_aloadN hx hb d_Mon_until_42 (lv_at hl 1 rfl) ?_
          refine lv_ifnullN hx hb d_Mon_until_44 (tgt := 52) (by decide) ?_
          refine lv_iconst hx hb d_Mon_until_52 ci_m1 ?_
          refine lv_goto hx hb d_Mon_until_53 (tgt := 73) (by decide) ?_
          refine W.widen (k := 5) (n := 75) (by decide) (by decide) ?_
          exact mm_irQ hx hb hr hk hS d_Mon_until_73 ⟨fun h => absurd h (by intro h; first | exact absurd (hfu.symm.trans h.1) (by decide) | (simp_all; done) | (obtain ⟨h1, h2, h3⟩ := h; simp_all; omega)), fun _ => ⟨rfl, PO_back hLo hP hEE⟩⟩
    · obtain ⟨j, rfl, hj, hjb⟩ := fm_nat hfr
      obtain ⟨hFr8, hRr8, cr, ra0, ra1, ra5, ra6, rx, hcr, hCr⟩ := hE j hj
      obtain ⟨mcnr, capr, gr, g1r, g2r, g3r, g4r, g5r⟩ := hAL.full (by omega)
      refine mm_sq (mm_runV hK ⟨hx, hb, hml, hown⟩ lk_Mon_69 (c_Mon_formulaI l G (xs 0) (xs 1) (xs 5) capr n v1 (.int (bI wt)) mcnr gr j (nd j) cr ra0 ra1 (.int (nI (FR j))) (.int (nI (RG j))) (.int (bI (CL j))) ra5 ra6 rx hcr hj g2r g1r (g5r j hj)) ⟨rfl, rfl, by decide, by decide⟩ (mm_rc hK (pl_1 hP hX) 0 rfl rfl) (pl_cons hP hX (pl_cons hP g3r (pl_cons hP g4r (pl_1 hP hCr)))) rfl hl.1 rfl (Nat.le_of_ble_eq_true rfl) ⟨by decide, by decide⟩ d_Mon_until_21) (fun r21 e21 => ?_)
      subst e21
      refine lv_astore (lv' := [(7, .ref (nd j)), (6, .null), (5, .ref q0), (0, .ref (xs 0)), (1, .int a1), (2, .int a2), (3, .int a3), (4, .int (nI j))]) hx hb d_Mon_until_24 hl (by decide) rfl (fun ls hl => ?_)
      refine lv_aload_n hx hb d_Mon_until_26 rfl (lv_at hl 3 rfl) ?_
      refine mm_si (mm_runV hK ⟨hx, hb, hml, hown⟩ lk_Mon_47 (c_Mon_isFull l G (xs 0) (xs 1) n v0 v1 v2 wt (by omega)) ⟨rfl, rfl, by decide, by decide⟩ (mm_rc hK (pl_1 hP hX) 0 rfl rfl) (pl_cons hP hX (pl_1 hP hla)) rfl hl.1 rfl (Nat.le_of_ble_eq_true rfl) ⟨by decide, by decide⟩ d_Mon_until_27) (fun r27 e27 => ?_)
      subst e27
      refine mm_ifneB hx hb d_Mon_until_30 (tgt := 52) (by decide) (fun c30 => ?_) (fun c30 => ?_)
      · have hfu : mkB wt n = false := by simpa using c30
        refine lv_iconst hx hb d_Mon_until_52 ci_m1 ?_
        refine lv_goto hx hb d_Mon_until_53 (tgt := 73) (by decide) ?_
        refine W.widen (k := 5) (n := 75) (by decide) (by decide) ?_
        exact mm_irQ hx hb hr hk hS d_Mon_until_73 ⟨fun h => absurd h (by intro h; first | exact absurd (hfu.symm.trans h.1) (by decide) | (simp_all; done) | (obtain ⟨h1, h2, h3⟩ := h; simp_all; omega)), fun _ => ⟨rfl, PO_back hLo hP hEE⟩⟩
      · have hfu : mkB wt n = true := by simpa using c30
        have hn12 : n < 12 := (of_decide_eq_true hfu).2
        refine lv_aload hx hb d_Mon_until_33 (lv_at hl 2 rfl) ?_
        refine lv_iconst hx hb d_Mon_until_35 ci_1 ?_
        refine mm_ti (y := bI true) (by decide) ?_
        refine mm_si (mm_runV hK ⟨hx, hb, hml, hown⟩ lk_Mon_93 (c_Interval_isGood l G q0 a1 a2 true) ⟨rfl, rfl, by decide, by decide⟩ (mm_rc hK (pl_1 hP hI) 0 rfl rfl) (pl_1 hP hI) rfl hl.1 rfl (Nat.le_of_ble_eq_true rfl) ⟨by decide, by decide⟩ d_Mon_until_36) (fun r36 e36 => ?_)
        subst e36
        refine mm_ifeqB hx hb d_Mon_until_39 (tgt := 52) (by decide) (fun c39 => ?_) (fun c39 => ?_)
        · refine lv_iconst hx hb d_Mon_until_52 ci_m1 ?_
          refine lv_goto hx hb d_Mon_until_53 (tgt := 73) (by decide) ?_
          refine W.widen (k := 5) (n := 75) (by decide) (by decide) ?_
          exact mm_irQ hx hb hr hk hS d_Mon_until_73 ⟨fun h => absurd h (by intro h; first | exact absurd (hfu.symm.trans h.1) (by decide) | (simp_all; done) | (obtain ⟨h1, h2, h3⟩ := h; simp_all; omega)), fun _ => ⟨rfl, PO_back hLo hP hEE⟩⟩
        · refine lv_aloadN hx hb d_Mon_until_42 (lv_at hl 1 rfl) ?_
          refine lv_ifnullN hx hb d_Mon_until_44 (tgt := 52) (by decide) ?_
          refine lv_iconst hx hb d_Mon_until_52 ci_m1 ?_
          refine lv_goto hx hb d_Mon_until_53 (tgt := 73) (by decide) ?_
          refine W.widen (k := 5) (n := 75) (by decide) (by decide) ?_
          exact mm_irQ hx hb hr hk hS d_Mon_until_73 ⟨fun h => absurd h (by intro h; first | exact absurd (hfu.symm.trans h.1) (by decide) | (simp_all; done) | (obtain ⟨h1, h2, h3⟩ := h; simp_all; omega)), fun _ => ⟨rfl, PO_back hLo hP hEE⟩⟩
  · obtain ⟨i, rfl, hi, hib⟩ := fm_nat hfl
    obtain ⟨hFl8, hRl8, cl, la0, la1, la5, la6, lx, hcl, hCl⟩ := hE i hi
    obtain ⟨mcnl, capl, gl, g1l, g2l, g3l, g4l, g5l⟩ := hAL.full (by omega)
    refine mm_sq (mm_runV hK ⟨hx, hb, hml, hown⟩ lk_Mon_69 (c_Mon_formulaI l G (xs 0) (xs 1) (xs 5) capl n v1 (.int (bI wt)) mcnl gl i (nd i) cl la0 la1 (.int (nI (FR i))) (.int (nI (RG i))) (.int (bI (CL i))) la5 la6 lx hcl hi g2l g1l (g5l i hi)) ⟨rfl, rfl, by decide, by decide⟩ (mm_rc hK (pl_1 hP hX) 0 rfl rfl) (pl_cons hP hX (pl_cons hP g3l (pl_cons hP g4l (pl_1 hP hCl)))) rfl hl.1 rfl (Nat.le_of_ble_eq_true rfl) ⟨by decide, by decide⟩ d_Mon_until_13) (fun r13 e13 => ?_)
    subst e13
    refine lv_astore (lv' := [(6, .ref (nd i)), (5, .ref q0), (0, .ref (xs 0)), (1, .int a1), (2, .int a2), (3, .int (nI i)), (4, .int a4)]) hx hb d_Mon_until_16 hl (by decide) rfl (fun ls hl => ?_)
    refine lv_aload_n hx hb d_Mon_until_18 rfl (lv_at hl 2 rfl) ?_
    refine lv_iload hx hb d_Mon_until_19 (lv_at hl 6 rfl) ?_
    cases hfr : fmB a4 n
    · refine mm_sq (mm_runV hK ⟨hx, hb, hml, hown⟩ lk_Mon_69 (c_Mon_formulaO l G (xs 0) (xs 1) n v0 v1 v2 (.int (bI wt)) a4 hfr (by omega)) ⟨rfl, rfl, by decide, by decide⟩ (mm_rc hK (pl_1 hP hX) 0 rfl rfl) (pl_cons hP hX (pl_1 hP hla)) rfl hl.1 rfl (Nat.le_of_ble_eq_true rfl) ⟨by decide, by decide⟩ d_Mon_until_21) (fun r21 e21 => ?_)
      subst e21
      refine lv_astoreN (lv' := [(7, .null), (6, .ref (nd i)), (5, .ref q0), (0, .ref (xs 0)), (1, .int a1), (2, .int a2), (3, .int (nI i)), (4, .int a4)]) hx hb d_Mon_until_24 hl (by decide) rfl (fun ls hl => ?_)
      refine lv_aload_n hx hb d_Mon_until_26 rfl (lv_at hl 3 rfl) ?_
      refine mm_si (mm_runV hK ⟨hx, hb, hml, hown⟩ lk_Mon_47 (c_Mon_isFull l G (xs 0) (xs 1) n v0 v1 v2 wt (by omega)) ⟨rfl, rfl, by decide, by decide⟩ (mm_rc hK (pl_1 hP hX) 0 rfl rfl) (pl_cons hP hX (pl_1 hP hla)) rfl hl.1 rfl (Nat.le_of_ble_eq_true rfl) ⟨by decide, by decide⟩ d_Mon_until_27) (fun r27 e27 => ?_)
      subst e27
      refine mm_ifneB hx hb d_Mon_until_30 (tgt := 52) (by decide) (fun c30 => ?_) (fun c30 => ?_)
      · have hfu : mkB wt n = false := by simpa using c30
        refine lv_iconst hx hb d_Mon_until_52 ci_m1 ?_
        refine lv_goto hx hb d_Mon_until_53 (tgt := 73) (by decide) ?_
        refine W.widen (k := 5) (n := 75) (by decide) (by decide) ?_
        exact mm_irQ hx hb hr hk hS d_Mon_until_73 ⟨fun h => absurd h (by intro h; first | exact absurd (hfu.symm.trans h.1) (by decide) | (simp_all; done) | (obtain ⟨h1, h2, h3⟩ := h; simp_all; omega)), fun _ => ⟨rfl, PO_back hLo hP hEE⟩⟩
      · have hfu : mkB wt n = true := by simpa using c30
        have hn12 : n < 12 := (of_decide_eq_true hfu).2
        refine lv_aload hx hb d_Mon_until_33 (lv_at hl 2 rfl) ?_
        refine lv_iconst hx hb d_Mon_until_35 ci_1 ?_
        refine mm_ti (y := bI true) (by decide) ?_
        refine mm_si (mm_runV hK ⟨hx, hb, hml, hown⟩ lk_Mon_93 (c_Interval_isGood l G q0 a1 a2 true) ⟨rfl, rfl, by decide, by decide⟩ (mm_rc hK (pl_1 hP hI) 0 rfl rfl) (pl_1 hP hI) rfl hl.1 rfl (Nat.le_of_ble_eq_true rfl) ⟨by decide, by decide⟩ d_Mon_until_36) (fun r36 e36 => ?_)
        subst e36
        refine mm_ifeqB hx hb d_Mon_until_39 (tgt := 52) (by decide) (fun c39 => ?_) (fun c39 => ?_)
        · refine lv_iconst hx hb d_Mon_until_52 ci_m1 ?_
          refine lv_goto hx hb d_Mon_until_53 (tgt := 73) (by decide) ?_
          refine W.widen (k := 5) (n := 75) (by decide) (by decide) ?_
          exact mm_irQ hx hb hr hk hS d_Mon_until_73 ⟨fun h => absurd h (by intro h; first | exact absurd (hfu.symm.trans h.1) (by decide) | (simp_all; done) | (obtain ⟨h1, h2, h3⟩ := h; simp_all; omega)), fun _ => ⟨rfl, PO_back hLo hP hEE⟩⟩
        · refine lv_aload hx hb d_Mon_until_42 (lv_at hl 1 rfl) ?_
          refine lv_ifnull hx hb d_Mon_until_44 ?_
          refine lv_aloadN hx hb d_Mon_until_47 (lv_at hl 0 rfl) ?_
          refine lv_ifnonnullN hx hb d_Mon_until_49 ?_
          refine lv_iconst hx hb d_Mon_until_52 ci_m1 ?_
          refine lv_goto hx hb d_Mon_until_53 (tgt := 73) (by decide) ?_
          refine W.widen (k := 5) (n := 75) (by decide) (by decide) ?_
          exact mm_irQ hx hb hr hk hS d_Mon_until_73 ⟨fun h => absurd h (by intro h; first | exact absurd (hfu.symm.trans h.1) (by decide) | (simp_all; done) | (obtain ⟨h1, h2, h3⟩ := h; simp_all; omega)), fun _ => ⟨rfl, PO_back hLo hP hEE⟩⟩
    · obtain ⟨j, rfl, hj, hjb⟩ := fm_nat hfr
      obtain ⟨hFr8, hRr8, cr, ra0, ra1, ra5, ra6, rx, hcr, hCr⟩ := hE j hj
      obtain ⟨mcnr, capr, gr, g1r, g2r, g3r, g4r, g5r⟩ := hAL.full (by omega)
      refine mm_sq (mm_runV hK ⟨hx, hb, hml, hown⟩ lk_Mon_69 (c_Mon_formulaI l G (xs 0) (xs 1) (xs 5) capr n v1 (.int (bI wt)) mcnr gr j (nd j) cr ra0 ra1 (.int (nI (FR j))) (.int (nI (RG j))) (.int (bI (CL j))) ra5 ra6 rx hcr hj g2r g1r (g5r j hj)) ⟨rfl, rfl, by decide, by decide⟩ (mm_rc hK (pl_1 hP hX) 0 rfl rfl) (pl_cons hP hX (pl_cons hP g3r (pl_cons hP g4r (pl_1 hP hCr)))) rfl hl.1 rfl (Nat.le_of_ble_eq_true rfl) ⟨by decide, by decide⟩ d_Mon_until_21) (fun r21 e21 => ?_)
      subst e21
      refine lv_astore (lv' := [(7, .ref (nd j)), (6, .ref (nd i)), (5, .ref q0), (0, .ref (xs 0)), (1, .int a1), (2, .int a2), (3, .int (nI i)), (4, .int (nI j))]) hx hb d_Mon_until_24 hl (by decide) rfl (fun ls hl => ?_)
      refine lv_aload_n hx hb d_Mon_until_26 rfl (lv_at hl 3 rfl) ?_
      refine mm_si (mm_runV hK ⟨hx, hb, hml, hown⟩ lk_Mon_47 (c_Mon_isFull l G (xs 0) (xs 1) n v0 v1 v2 wt (by omega)) ⟨rfl, rfl, by decide, by decide⟩ (mm_rc hK (pl_1 hP hX) 0 rfl rfl) (pl_cons hP hX (pl_1 hP hla)) rfl hl.1 rfl (Nat.le_of_ble_eq_true rfl) ⟨by decide, by decide⟩ d_Mon_until_27) (fun r27 e27 => ?_)
      subst e27
      refine mm_ifneB hx hb d_Mon_until_30 (tgt := 52) (by decide) (fun c30 => ?_) (fun c30 => ?_)
      · have hfu : mkB wt n = false := by simpa using c30
        refine lv_iconst hx hb d_Mon_until_52 ci_m1 ?_
        refine lv_goto hx hb d_Mon_until_53 (tgt := 73) (by decide) ?_
        refine W.widen (k := 5) (n := 75) (by decide) (by decide) ?_
        exact mm_irQ hx hb hr hk hS d_Mon_until_73 ⟨fun h => absurd h (by intro h; first | exact absurd (hfu.symm.trans h.1) (by decide) | (simp_all; done) | (obtain ⟨h1, h2, h3⟩ := h; simp_all; omega)), fun _ => ⟨rfl, PO_back hLo hP hEE⟩⟩
      · have hfu : mkB wt n = true := by simpa using c30
        have hn12 : n < 12 := (of_decide_eq_true hfu).2
        refine lv_aload hx hb d_Mon_until_33 (lv_at hl 2 rfl) ?_
        refine lv_iconst hx hb d_Mon_until_35 ci_1 ?_
        refine mm_ti (y := bI true) (by decide) ?_
        refine mm_si (mm_runV hK ⟨hx, hb, hml, hown⟩ lk_Mon_93 (c_Interval_isGood l G q0 a1 a2 true) ⟨rfl, rfl, by decide, by decide⟩ (mm_rc hK (pl_1 hP hI) 0 rfl rfl) (pl_1 hP hI) rfl hl.1 rfl (Nat.le_of_ble_eq_true rfl) ⟨by decide, by decide⟩ d_Mon_until_36) (fun r36 e36 => ?_)
        subst e36
        refine mm_ifeqB hx hb d_Mon_until_39 (tgt := 52) (by decide) (fun c39 => ?_) (fun c39 => ?_)
        · refine lv_iconst hx hb d_Mon_until_52 ci_m1 ?_
          refine lv_goto hx hb d_Mon_until_53 (tgt := 73) (by decide) ?_
          refine W.widen (k := 5) (n := 75) (by decide) (by decide) ?_
          exact mm_irQ hx hb hr hk hS d_Mon_until_73 ⟨fun h => absurd h (by intro h; first | exact absurd (hfu.symm.trans h.1) (by decide) | (simp_all; done) | (obtain ⟨h1, h2, h3⟩ := h; simp_all; omega)), fun _ => ⟨rfl, PO_back hLo hP hEE⟩⟩
        · refine lv_aload hx hb d_Mon_until_42 (lv_at hl 1 rfl) ?_
          refine lv_ifnull hx hb d_Mon_until_44 ?_
          refine lv_aload hx hb d_Mon_until_47 (lv_at hl 0 rfl) ?_
          refine lv_ifnonnull hx hb d_Mon_until_49 (tgt := 56) (by decide) ?_
          refine lv_aload_n hx hb d_Mon_until_56 rfl (lv_at hl 3 rfl) ?_
          refine p_new hK hx hb hown ln_Mon_107 hP hL hS hA (by decide) (by decide) d_Mon_until_57 (fun q57 H L57 f57 hP hL57 hS hX57 hN57 hq57 _ => ?_)
          refine W.widen (k := 2) (n := 12) (by decide) (by decide) ?_
          have hq57o : q57 ∉ L := fun h => hq57 (hEE _ h).1
          have hCln : q57 ≠ nd i := fun e => hq57 (by rw [e]; exact hCl.1)
          have hCl := hCl.ext hX57
          have hCrn : q57 ≠ nd j := fun e => hq57 (by rw [e]; exact hCr.1)
          have hCr := hCr.ext hX57
          refine lv_dup hx hb d_Mon_until_60 rfl ?_
          refine lv_aload hx hb d_Mon_until_61 (lv_at hl 2 rfl) ?_
          refine lv_aload hx hb d_Mon_until_63 (lv_at hl 1 rfl) ?_
          refine lv_aload hx hb d_Mon_until_65 (lv_at hl 0 rfl) ?_
          have hPc := pl_1 hP hN57
          have hFc := wF (w := [(q57, (.inr (7, [.null, .null, .int 0, .int 0, .int 0, .null, .int 0, .null, .null, .int 0]) : va_E))]) hL57 hA hS.1 (fa_1 hN57.1)
          refine mm_qv (mm_runI hK ⟨hx, hb, hml, hown⟩ lk_Mon_109 (c_Until_init l G q57 q0 (nd i) cl hcl la0 la1 la5 la6 (FR i) (RG i) (CL i) lx (nd j) cr hcr ra0 ra1 ra5 ra6 (FR j) (RG j) (CL j) rx hFl8 hFr8 (wD nd1) (fa_2 (nA_w (fa_1 hCln) (pl_lt hP hCl.1)) (nA_w (fa_1 hCrn) (pl_lt hP hCr.1)))) ⟨rfl, rfl, by decide, by decide⟩ ⟨hPc, fun q h => Or.inr h, (pl_cons hP hCl (pl_1 hP hCr))⟩ rfl hl.1 rfl (Nat.le_of_ble_eq_true rfl) ⟨by decide, by decide⟩ d_Mon_until_67) hS hFc (fun H1 locs e67 hz1 hk1 hS => ?_)
          obtain ⟨x67_s, x67_x, hP1, hD1⟩ := e67
          have hne : x67_x ≠ x67_s := fun e => absurd (hD1.1 2 1 _ _ rfl rfl e) (by decide)
          obtain ⟨L67, f67, hP, hL67, k3, k4, k5, _⟩ := pl_join (wo := [(q57, (.inr (7, [.ref (nd i), .ref (nd j), .int (nI (FR i ||| FR j)), .int (nI (RG j)), .int (bI (CL i && CL j)), .ref x67_s, .int 0, .ref q0, .ref x67_x, .int 0]) : va_E))]) (wn := [(x67_s, (.inl (G.2.1 1, 24, .inr (.inl (fun _ => 0))) : va_E)), (x67_x, (.inl (G.2.1 1, 24, .inr (.inl (fun _ => 0))) : va_E))]) hP hL57 hk1 hFc hP1 hD1 rfl
          obtain ⟨H, rfl⟩ : ∃ H9, H9 = H1 := ⟨_, rfl⟩
          have hE67 := ext_join hX57 hq57 k3
          have hN67 := k4 _ (List.mem_singleton.mpr rfl) hN57.1 _ (List.mem_singleton.mpr rfl)
          obtain ⟨m67_0, m67_0n⟩ := k5 _ (List.mem_cons_self ..)
          have m67_0o : x67_s ∉ L := fun h => m67_0n (hX57 _ (hEE _ h).1).1
          obtain ⟨m67_1, m67_1n⟩ := k5 _ (List.mem_cons_of_mem _ (List.mem_cons_self ..))
          have m67_1o : x67_x ∉ L := fun h => m67_1n (hX57 _ (hEE _ h).1).1
          have hX := hX.ext hE67
          have hla := hla.ext hE67
          have hAL := hAL.ext hE67
          have hE := hE.ext hE67
          have hI := hI.ext hE67
          have hEE := hEE.trans hE67
          have hL := hL67
          refine W.widen (k := 4) (n := 60) (by decide) (by decide) ?_
          refine mm_qi (mn_runV hK hT hS (fun q h => h) ⟨hx, hb, hml, hown⟩ lk_Mon_60 (c_Mon_made l G Z L67 f67 xs n nd v1 (.int (bI wt)) q57 7 [.ref (nd i), .ref (nd j), .int (nI (FR i ||| FR j)), .int (nI (RG j)), .int (bI (CL i && CL j)), .ref x67_s, .int 0, .ref q0, .ref x67_x, .int 0] (by decide) hn12 hX hAL hN67 hE.E) ⟨rfl, rfl, by decide, by decide⟩ (mm_rc hK (pl_1 hP hX) 0 rfl rfl) ⟨⟨hP, hL⟩, (fun q h => hA q (Nat.le_trans hS.1 h))⟩ rfl hl.1 rfl (Nat.le_of_ble_eq_true rfl) ⟨by decide, by decide⟩ d_Mon_until_70) hS (fun q h => h) (fun r70 H locs e70 hz1 hk1 hS => ?_)
          obtain ⟨rfl, L9, f9, ea9, hPO, hAL9, hKP9, hea9⟩ := e70
          refine W.widen (k := 5) (n := 75) (by decide) (by decide) ?_
          exact mm_irQ hx hb hr hk hS d_Mon_until_73 ⟨fun _ => ⟨rfl, (by rw [cN_nI (k := i) (by omega), cN_nI (k := j) (by omega)]; exact MK_fin (na := na4 q57 x67_s x67_x q0) hm hEE hPO hAL9 hKP9 hea9 ⟨⟨hq57o, hN67⟩, ⟨m67_0o, m67_0⟩, fun _ => ⟨m67_1o, hne, m67_1⟩, fun _ => ⟨hIo, hI⟩⟩)⟩, fun h => absurd ⟨hfu, c39, hfl, hfr⟩ h⟩
