/-! contracts over the pool out of contracts over lists -/
theorem mm_conseq {l : Launch} {y : MethodName} {ws : List Cond} {rm : Room} {Pc : Array Value → State → Prop} {Qc : Array Value → State → Outcome → State → Prop} {mc ms : Nat} {free : Addr → Prop} (h : ∀ args s, Pc args s → ∃ (Pc1 : Array Value → State → Prop) (Qc1 : Array Value → State → Outcome → State → Prop) (free1 : Addr → Prop), Met l y ws rm Pc1 Qc1 mc ms free1 ∧ Pc1 args s ∧ (∀ o t, Qc1 args s o t → Qc args s o t) ∧ ∀ q, free1 q → free q) : Met l y ws rm Pc Qc mc ms free := by
  intro p e he hc hk s m args below hf ha hp hK
  obtain ⟨Pc1, Qc1, free1, hM, h1, h2, h3⟩ := h args s hp
  obtain ⟨n, o, a, b, c, d, L, x, y⟩ := hM p e he hc hk s m args below hf ha h1 trivial
  exact ⟨n, o, a, b, c, h2 _ _ d, L, x, fun q hq => h3 _ (y q hq)⟩
section CQ
variable {l : Launch} {y : MethodName} {ws : List Cond} {rm : Room} {mc ms : Nat} {G : mm_G} {A : Nat → Prop} {Z : Nat × Nat} {av : List Value} {pre : Heap → Prop}
theorem mn_lift {Qc : Array Value → State → Outcome → State → Prop} {free : Addr → Prop} (h : Met l y ws rm (mm_Pre G av pre) Qc mc ms free) : Met l y ws rm (mn_Pre G A Z av pre) Qc mc ms free :=
  mm_conseq (fun args s hp => ⟨_, _, _, h, ⟨hp.1, hp.2.1, hp.2.2.2⟩, fun _ _ h => h, fun _ h => h⟩)
theorem cq_i {post : Int32 → Heap → Prop} (h : ∀ s : State, KG G s → ST A Z s → pre s.heap → ∃ (A1 : Nat → Prop) (pre1 : Heap → Prop) (post1 : Int32 → Heap → Prop), Met l y ws rm (mn_Pre G A1 Z av pre1) (mm_Qi post1 A1) mc ms A1 ∧ (∀ q, A1 q → A q) ∧ pre1 s.heap ∧ ∀ (r : Int32) (H1 : Heap), post1 r H1 → s.heap.size ≤ H1.size → (∀ q : Nat, q < s.heap.size → ¬ A1 q → H1[q]? = s.heap[q]?) → post r H1) : Met l y ws rm (mn_Pre G A Z av pre) (mm_Qi post A) mc ms A := by
  refine mm_conseq (fun args s hp => ?_)
  obtain ⟨hv, hK, hT, hp⟩ := hp
  obtain ⟨A1, pre1, post1, hM, hA, h1, h2⟩ := h s hK hT hp
  refine ⟨_, _, _, hM, ⟨hv, hK, ST.at hT (H := s.heap) (locs := []) va_S.rf hA rfl (State.WarmedH.refl s), h1⟩, fun o t hq => ?_, hA⟩
  obtain ⟨⟨r, u, e1, e2, e3⟩, e4, e5⟩ := hq
  subst e2
  exact ⟨⟨u, u, e1, rfl, h2 u t.heap e3 e4 e5⟩, e4, fun q hq hn => e5 q hq (fun h => hn (hA q h))⟩
theorem cq_v {post : Heap → Prop} (h : ∀ s : State, KG G s → ST A Z s → pre s.heap → ∃ (A1 : Nat → Prop) (pre1 : Heap → Prop) (post1 : Heap → Prop), Met l y ws rm (mn_Pre G A1 Z av pre1) (mm_Qv post1 A1) mc ms A1 ∧ (∀ q, A1 q → A q) ∧ pre1 s.heap ∧ ∀ (H1 : Heap), post1 H1 → s.heap.size ≤ H1.size → (∀ q : Nat, q < s.heap.size → ¬ A1 q → H1[q]? = s.heap[q]?) → post H1) : Met l y ws rm (mn_Pre G A Z av pre) (mm_Qv post A) mc ms A := by
  refine mm_conseq (fun args s hp => ?_)
  obtain ⟨hv, hK, hT, hp⟩ := hp
  obtain ⟨A1, pre1, post1, hM, hA, h1, h2⟩ := h s hK hT hp
  refine ⟨_, _, _, hM, ⟨hv, hK, ST.at hT (H := s.heap) (locs := []) va_S.rf hA rfl (State.WarmedH.refl s), h1⟩, fun o t hq => ?_, hA⟩
  obtain ⟨⟨u, e1, e2, e3⟩, e4, e5⟩ := hq
  exact ⟨⟨u, e1, trivial, h2 t.heap e3 e4 e5⟩, e4, fun q hq hn => e5 q hq (fun h => hn (hA q h))⟩
end CQ
theorem nA_w {w : va_W} {sz a : Nat} (h : ∀ q, q ∈ w → q.1 ≠ a) (ha : a < sz) : ¬ va_A w sz a := by
  rintro (⟨k, e, hk⟩ | h2)
  · exact h _ (List.mem_of_getElem? hk) rfl
  · omega
/-- the pool and what a contract's start says of it -/
def PO (G : mm_G) (A : Nat → Prop) (L : List Nat) (f : Nat → va_E) (H : Heap) : Prop := va_P G.1 cls_all (va_pl L f) H ∧ PD A L
def KP (L : List Nat) (f : Nat → va_E) (L1 : List Nat) (f1 : Nat → va_E) (B : Nat → Prop) : Prop := ∀ a e, PLc L f a e → ¬ B a → PLc L1 f1 a e
theorem KP.rf {L : List Nat} {f : Nat → va_E} {B : Nat → Prop} : KP L f L f B := fun a e h _ => h
theorem KP.trans {L L1 L2 : List Nat} {f f1 f2 : Nat → va_E} {B : Nat → Prop} (h : KP L f L1 f1 B) (h2 : KP L1 f1 L2 f2 B) : KP L f L2 f2 B := fun a e k hB => h2 a e (h a e k hB) hB
theorem KP.mono {L L1 : List Nat} {f f1 : Nat → va_E} {B B1 : Nat → Prop} (h : KP L f L1 f1 B) (hB : ∀ a, B a → B1 a) : KP L f L1 f1 B1 := fun a e k h1 => h a e k (fun h2 => h1 (hB a h2))
theorem c_Mon_made (l : Launch) (G : mm_G) {A : Nat → Prop} (Z : Nat × Nat) (L : List Nat) (f : Nat → va_E) (xs : Nat → Nat) (n : Nat) (nd : Nat → Nat) (v1 v3 : Value) (qn cq : Nat) (qf : List Value) (hcq : cq < 8) (hn : n < 12) (hX : PLc L f (xs 0) (.inr (10, [.ref (xs 1), v1, v3]))) (hAL : ALf G Z xs n nd L f) (hq : PLc L f qn (.inr (cq, qf))) (hE : ∀ k, k < n → ∃ ck fs, ck < 8 ∧ PLc L f (nd k) (.inr (ck, fs))) :
    Met l y_Mon_made [.code y_Mon_made b_Mon_made 2 (some .int)] { frames := 8, cells := 1, slots := 15, locals := 300 } (mn_Pre G A Z [.ref (xs 0), .ref qn] (fun H => PO G A L f H ∧ (∀ q, H.size ≤ q → A q))) (mm_Qi (fun r H => r = nI n ∧ ∃ (L1 : List Nat) (f1 : Nat → va_E) (ea1 : Nat), PO G A L1 f1 H ∧ ALf G Z (va_up xs 5 ea1) (n + 1) (va_up nd n qn) L1 f1 ∧ KP L f L1 f1 (fun a => a = xs 1 ∨ a = xs 5) ∧ (ea1 = xs 5 ∧ xs 5 ≠ xs 1 ∨ ea1 ∉ L)) A) 1 15 A := by
  refine cq_i (fun s hK hT hp => ?_)
  obtain ⟨⟨hP, hL⟩, hA⟩ := hp
  obtain ⟨mcn, h0 | ⟨cap, g, hcap, hnc, hla, hea, hg⟩⟩ := hAL
  · obtain ⟨rfl, h5, hla⟩ := h0
    have n1 : xs 1 ≠ xs 0 := ne_ent hla hX (by simp)
    have n2 : xs 1 ≠ qn := ne_ent hla hq (by simp; omega)
    have hF := wF (w := [(xs 1, (.inr (11, [.ref Z.1, .int (nI 0), .int mcn]) : va_E))]) hL hA (Nat.le_refl _) (fa_1 hla.1)
    refine ⟨_, _, _, c_Mon_madeV l G Z (xs 1) mcn (xs 0) v1 v3 qn cq hcq qf (nA_w (fa_1 n2) (pl_lt hP hq.1)) (fa_1 (nA_w (fa_1 n1) (pl_lt hP hX.1))) (wD nd1), hF, ⟨pl_1 hP hla, fun q h => Or.inr h, pl_1 hP hX, pl_at hP hq⟩, ?_⟩
    rintro r H1 ⟨rfl, q, hP1, hD1⟩ hz hk
    obtain ⟨L1, f1, k1, k2, k3, k4, k5, k6⟩ := pl_join (wo := [(xs 1, (.inr (11, [.ref q, .int (nI 1), .int (mcn + nI 1)]) : va_E))]) (wn := [(q, (.inl (G.2.1 4, 10, .inr (.inr (.inr (.inr (va_up (fun _ => none) 0 (some qn)))))) : va_E))]) hP hL hk hF hP1 hD1 rfl
    have m1 := k4 _ (List.mem_singleton.mpr rfl) hla.1 _ (List.mem_singleton.mpr rfl)
    obtain ⟨m2, m3⟩ := k5 _ (List.mem_singleton.mpr rfl)
    refine ⟨rfl, L1, f1, q, ⟨k1, k2⟩, ⟨mcn + nI 1, Or.inr ⟨10, va_up (fun _ => none) 0 (some qn), Or.inl rfl, by omega, ?_, ?_, ?_⟩⟩, fun a e h hB => k3 a e h (fa_1 (fun e => hB (Or.inl e.symm))), Or.inr m3⟩
    · rw [va_up_ne _ _ (by decide), va_up_self]; exact m1
    · rw [va_up_self]; exact m2
    · intro k hk
      have : k = 0 := by omega
      subst this
      rw [va_up_self, va_up_self]
  · have n1 : xs 1 ≠ xs 0 := ne_ent hla hX (by simp)
    have n2 : xs 1 ≠ qn := ne_ent hla hq (by simp; omega)
    have n3 : xs 5 ≠ xs 0 := ne_ent hea hX (by simp)
    have n4 : xs 5 ≠ qn := ne_ent hea hq (by simp)
    have n5 : xs 1 ≠ xs 5 := ne_ent hla hea (by simp)
    have hPc := pl_cons hP hla (pl_1 hP hea)
    rcases Nat.lt_or_ge n cap with hc | hc
    · have hF := wF (w := [(xs 1, (.inr (11, [.ref (xs 5), .int (nI n), .int mcn]) : va_E)), (xs 5, .inl (G.2.1 4, cap, .inr (.inr (.inr (.inr g)))))]) hL hA (Nat.le_refl _) (fa_2 hla.1 hea.1)
      refine ⟨_, _, _, mn_lift (c_Mon_madeR l G (xs 1) (xs 5) cap n mcn g hc (by omega) (xs 0) v1 v3 qn cq hcq qf (nA_w (fa_2 n2 n4) (pl_lt hP hq.1)) (fa_1 (nA_w (fa_2 n1 n3) (pl_lt hP hX.1))) (wD (nd2 n5))), hF, ⟨hPc, fun q h => Or.inr h, pl_1 hP hX, pl_at hP hq⟩, ?_⟩
      rintro r H1 ⟨rfl, hP1⟩ hz hk
      obtain ⟨L1, f1, k1, k2, k3, k4, k5, k6⟩ := pl_join (wo := [(xs 1, (.inr (11, [.ref (xs 5), .int (nI (n + 1)), .int (mcn + nI 1)]) : va_E)), (xs 5, .inl (G.2.1 4, cap, .inr (.inr (.inr (.inr (va_up g n (some qn)))))))]) (wn := []) hP hL hk hF hP1 (mD (wD (nd2 n5)) rfl) rfl
      have m1 := k4 _ (List.mem_cons_self ..) hla.1 _ (List.mem_cons_self ..)
      have m2 := k4 _ (List.mem_cons_of_mem _ (List.mem_singleton.mpr rfl)) hea.1 _ (List.mem_cons_of_mem _ (List.mem_singleton.mpr rfl))
      refine ⟨rfl, L1, f1, xs 5, ⟨k1, k2⟩, ⟨mcn + nI 1, Or.inr ⟨cap, va_up g n (some qn), hcap, by omega, ?_, ?_, ?_⟩⟩, fun a e h hB => k3 a e h (fa_2 (fun e => hB (Or.inl e.symm)) (fun e => hB (Or.inr e.symm))), Or.inl ⟨rfl, n5.symm⟩⟩
      · rw [va_up_ne _ _ (by decide), va_up_self]; exact m1
      · rw [va_up_self]; exact m2
      · intro k hk
        by_cases hkn : k = n
        · subst hkn; rw [va_up_self, va_up_self]
        · rw [va_up_ne _ _ hkn, va_up_ne _ _ hkn]; exact hg k (by omega)
    · have e1 : n = 10 := by omega
      have e2 : cap = 10 := by omega
      subst e1; subst e2
      have hF := wF (w := [(xs 1, (.inr (11, [.ref (xs 5), .int (nI 10), .int mcn]) : va_E)), (xs 5, .inl (G.2.1 4, 10, .inr (.inr (.inr (.inr g)))))]) hL hA (Nat.le_refl _) (fa_2 hla.1 hea.1)
      have hEl : EL G (va_A [(xs 1, (.inr (11, [.ref (xs 5), .int (nI 10), .int mcn]) : va_E)), (xs 5, .inl (G.2.1 4, 10, .inr (.inr (.inr (.inr g)))))] s.heap.size) 10 g s.heap := by
        intro i y hi hy
        obtain ⟨ck, fs, h1, h2⟩ := hE i hi
        have e3 : nd i = y := Option.some.inj ((hg i hi).symm.trans hy)
        subst e3
        exact ⟨nA_w (fa_2 (ne_ent hla h2 (by simp; omega)) (ne_ent hea h2 (by simp))) (pl_lt hP h2.1), ck, fs, h1, pl_at hP h2⟩
      refine ⟨_, _, _, mn_lift (c_Mon_madeG l G (xs 1) (xs 5) mcn g (xs 0) v1 v3 qn cq hcq qf (nA_w (fa_2 n2 n4) (pl_lt hP hq.1)) (fa_1 (nA_w (fa_2 n1 n3) (pl_lt hP hX.1))) (wD (nd2 n5))), hF, ⟨hPc, fun q h => Or.inr h, pl_1 hP hX, pl_at hP hq, hEl⟩, ?_⟩
      rintro r H1 ⟨rfl, q, hP1, hD1⟩ hz hk
      obtain ⟨L1, f1, k1, k2, k3, k4, k5, k6⟩ := pl_join (wo := [(xs 1, (.inr (11, [.ref q, .int (nI 11), .int (mcn + nI 1)]) : va_E)), (xs 5, .inl (G.2.1 4, 10, .inr (.inr (.inr (.inr g)))))]) (wn := [(q, .inl (G.2.1 4, 15, .inr (.inr (.inr (.inr (va_up (va_cpy g (fun _ => none) 0 0 10) 10 (some qn)))))))]) hP hL hk hF hP1 hD1 rfl
      have m1 := k4 _ (List.mem_cons_self ..) hla.1 _ (List.mem_cons_self ..)
      obtain ⟨m2, m3⟩ := k5 _ (List.mem_singleton.mpr rfl)
      refine ⟨rfl, L1, f1, q, ⟨k1, k2⟩, ⟨mcn + nI 1, Or.inr ⟨15, va_up (va_cpy g (fun _ => none) 0 0 10) 10 (some qn), Or.inr rfl, by omega, ?_, ?_, ?_⟩⟩, fun a e h hB => k3 a e h (fa_2 (fun e => hB (Or.inl e.symm)) (fun e => hB (Or.inr e.symm))), Or.inr m3⟩
      · rw [va_up_ne _ _ (by decide), va_up_self]; exact m1
      · rw [va_up_self]; exact m2
      · intro k hk
        by_cases hkn : k = 10
        · subst hkn; rw [va_up_self, va_up_self]
        · rw [va_up_ne _ _ hkn, va_up_ne _ _ hkn]
          show (if 0 ≤ k ∧ k < 0 + 10 then g (0 + (k - 0)) else none) = _
          rw [if_pos (by omega), Nat.sub_zero, Nat.zero_add]
          exact hg k (by omega)
theorem ALf.la {G : mm_G} {Z : Nat × Nat} {xs : Nat → Nat} {n : Nat} {nd : Nat → Nat} {L : List Nat} {f : Nat → va_E} (h : ALf G Z xs n nd L f) : ∃ v0 v2, PLc L f (xs 1) (.inr (11, [v0, .int (nI n), v2])) := by
  obtain ⟨mcn, ⟨rfl, -, h⟩ | ⟨cap, g, -, -, h, -⟩⟩ := h
  · exact ⟨_, _, h⟩
  · exact ⟨_, _, h⟩
theorem ALf.mem {G : mm_G} {Z : Nat × Nat} {xs : Nat → Nat} {n : Nat} {nd : Nat → Nat} {L : List Nat} {f : Nat → va_E} (h : ALf G Z xs n nd L f) : xs 1 ∈ L ∧ xs 5 ∈ L := by
  obtain ⟨mcn, ⟨-, h5, h⟩ | ⟨cap, g, -, -, h, h2, -⟩⟩ := h
  · exact ⟨h.1, by rw [h5]; exact h.1⟩
  · exact ⟨h.1, h2.1⟩
theorem ALf.full {G : mm_G} {Z : Nat × Nat} {xs : Nat → Nat} {n : Nat} {nd : Nat → Nat} {L : List Nat} {f : Nat → va_E} (h : ALf G Z xs n nd L f) (hn : 0 < n) : ∃ (mcn : Int32) (cap : Nat) (g : Nat → Option Nat), cap < 100 ∧ n ≤ cap ∧ PLc L f (xs 1) (.inr (11, [.ref (xs 5), .int (nI n), .int mcn])) ∧ PLc L f (xs 5) (.inl (G.2.1 4, cap, .inr (.inr (.inr (.inr g))))) ∧ ∀ k, k < n → g k = some (nd k) := by
  obtain ⟨mcn, ⟨h0, -⟩ | ⟨cap, g, h1, h2, h3, h4, h5⟩⟩ := h
  · omega
  · exact ⟨mcn, cap, g, by omega, h2, h3, h4, h5⟩
theorem ALf.kp {G : mm_G} {Z : Nat × Nat} {xs : Nat → Nat} {n : Nat} {nd : Nat → Nat} {L L1 : List Nat} {f f1 : Nat → va_E} {B : Nat → Prop} (h : ALf G Z xs n nd L f) (hk : KP L f L1 f1 B) (h1 : ¬ B (xs 1)) (h5 : ¬ B (xs 5)) : ALf G Z xs n nd L1 f1 := by
  obtain ⟨mcn, ⟨a, b, h⟩ | ⟨cap, g, a, b, h3, h4, c⟩⟩ := h
  · exact ⟨mcn, Or.inl ⟨a, b, hk _ _ h h1⟩⟩
  · exact ⟨mcn, Or.inr ⟨cap, g, a, b, hk _ _ h3 h1, hk _ _ h4 h5, c⟩⟩
theorem EXT.kp {L L1 : List Nat} {f f1 : Nat → va_E} (h : EXT L f L1 f1) {B : Nat → Prop} : KP L f L1 f1 B := fun a e k _ => k.ext h
theorem ALf.ext {G : mm_G} {Z : Nat × Nat} {xs : Nat → Nat} {n : Nat} {nd : Nat → Nat} {L L1 : List Nat} {f f1 : Nat → va_E} (h : ALf G Z xs n nd L f) (hE : EXT L f L1 f1) : ALf G Z xs n nd L1 f1 := h.kp (B := fun _ => False) hE.kp id id
/-- the nodes of the list -/
def NDS (n : Nat) (nd FR RG : Nat → Nat) (CL : Nat → Bool) (L : List Nat) (f : Nat → va_E) : Prop := ∀ k, k < n → FR k < 8 ∧ RG k < 8 ∧ ∃ (ck : Nat) (a0 a1 a5 a6 : Value) (ex : List Value), ck < 8 ∧ PLc L f (nd k) (.inr (ck, [a0, a1, .int (nI (FR k)), .int (nI (RG k)), .int (bI (CL k)), a5, a6] ++ ex))
theorem NDS.ext {n : Nat} {nd FR RG : Nat → Nat} {CL : Nat → Bool} {L L1 : List Nat} {f f1 : Nat → va_E} (h : NDS n nd FR RG CL L f) (hE : EXT L f L1 f1) : NDS n nd FR RG CL L1 f1 := by
  intro k hk
  obtain ⟨h1, h2, ck, a0, a1, a5, a6, ex, h3, h4⟩ := h k hk
  exact ⟨h1, h2, ck, a0, a1, a5, a6, ex, h3, h4.ext hE⟩
theorem NDS.E {n : Nat} {nd FR RG : Nat → Nat} {CL : Nat → Bool} {L : List Nat} {f : Nat → va_E} (h : NDS n nd FR RG CL L f) : ∀ k, k < n → ∃ ck fs, ck < 8 ∧ PLc L f (nd k) (.inr (ck, fs)) := by
  intro k hk
  obtain ⟨h1, h2, ck, a0, a1, a5, a6, ex, h3, h4⟩ := h k hk
  exact ⟨ck, _, h3, h4⟩
theorem ext_join {L L1 L2 : List Nat} {f f1 f2 : Nat → va_E} {q : Nat} {e0 : va_E} (hX : EXT L f L1 f1) (hq : q ∉ L) (k3 : ∀ a e, PLc L1 f1 a e → (∀ p, p ∈ [(q, e0)] → p.1 ≠ a) → PLc L2 f2 a e) : EXT L f L2 f2 := fun a ha => k3 a (f a) (hX a ha) (fa_1 (fun e => hq (by rw [show q = a from e]; exact ha)))
theorem PO_back {G : mm_G} {A : Nat → Prop} {L L2 : List Nat} {f f2 : Nat → va_E} {H : Heap} (hL : PD A L) (hP : va_P G.1 cls_all (va_pl L2 f2) H) (hE : EXT L f L2 f2) : PO G A L f H := by
  refine ⟨fun k q hq => ?_, hL⟩
  obtain ⟨h1, h2⟩ := pl_of hq
  have := pl_at hP (hE q.1 h1)
  rw [← h2] at this
  exact this
abbrev na4 (a b c d : Nat) : Nat → Nat := fun k => if k = 0 then a else if k = 1 then b else if k = 2 then c else d
/-- a new node: 0 itself, 1 its sets, 2 held or alive, 3 the interval -/
def NEW (G : mm_G) (L L1 : List Nat) (f1 : Nat → va_E) (kd : Nat) (na : Nat → Nat) (e : va_E) (lo hi : Int32) : Prop := (na 0 ∉ L ∧ PLc L1 f1 (na 0) e) ∧ (na 1 ∉ L ∧ PLc L1 f1 (na 1) (lgE G (fun _ => 0))) ∧ (8 ≤ kd → na 2 ∉ L ∧ na 2 ≠ na 1 ∧ PLc L1 f1 (na 2) (lgE G (fun _ => 0))) ∧ (7 ≤ kd → na 3 ∉ L ∧ PLc L1 f1 (na 3) (.inr (8, [.int lo, .int hi])))
def MK (G : mm_G) (A : Nat → Prop) (Z : Nat × Nat) (L : List Nat) (f : Nat → va_E) (xs : Nat → Nat) (n : Nat) (nd : Nat → Nat) (kd : Nat) (e : (Nat → Nat) → va_E) (lo hi : Int32) (H : Heap) : Prop := ∃ (L1 : List Nat) (f1 : Nat → va_E) (ea1 : Nat) (na : Nat → Nat), PO G A L1 f1 H ∧ ALf G Z (va_up xs 5 ea1) (n + 1) (va_up nd n (na 0)) L1 f1 ∧ KP L f L1 f1 (fun a => a = xs 1 ∨ a = xs 5) ∧ (ea1 = xs 5 ∧ xs 5 ≠ xs 1 ∨ ea1 ∉ L) ∧ NEW G L L1 f1 kd na (e na) lo hi
theorem MK_fin {G : mm_G} {A : Nat → Prop} {Z : Nat × Nat} {L L2 L3 : List Nat} {f f2 f3 : Nat → va_E} {xs : Nat → Nat} {n : Nat} {nd : Nat → Nat} {kd : Nat} {e : (Nat → Nat) → va_E} {lo hi : Int32} {H : Heap} {ea1 : Nat} {na : Nat → Nat} (hm : xs 1 ∈ L ∧ xs 5 ∈ L) (hE : EXT L f L2 f2) (hPO : PO G A L3 f3 H) (hAL : ALf G Z (va_up xs 5 ea1) (n + 1) (va_up nd n (na 0)) L3 f3) (hK : KP L2 f2 L3 f3 (fun a => a = xs 1 ∨ a = xs 5)) (hea : ea1 = xs 5 ∧ xs 5 ≠ xs 1 ∨ ea1 ∉ L2) (hN : NEW G L L2 f2 kd na (e na) lo hi) : MK G A Z L f xs n nd kd e lo hi H := by
  have nb : ∀ a, a ∉ L → ¬ (a = xs 1 ∨ a = xs 5) := fun a ha h => by
    rcases h with h | h
    · exact ha (by rw [h]; exact hm.1)
    · exact ha (by rw [h]; exact hm.2)
  obtain ⟨⟨a1, a2⟩, ⟨b1, b2⟩, h3, h4⟩ := hN
  refine ⟨L3, f3, ea1, na, hPO, hAL, fun a e h hB => hK a e (h.ext hE) hB, ?_, ⟨a1, hK _ _ a2 (nb _ a1)⟩, ⟨b1, hK _ _ b2 (nb _ b1)⟩, fun h => ?_, fun h => ?_⟩
  · rcases hea with h | h
    · exact Or.inl h
    · exact Or.inr (fun h2 => h (hE _ h2).1)
  · obtain ⟨c1, c2, c3⟩ := h3 h
    exact ⟨c1, c2, hK _ _ c3 (nb _ c1)⟩
  · obtain ⟨c1, c2⟩ := h4 h
    exact ⟨c1, hK _ _ c2 (nb _ c1)⟩
theorem fm_nat {f : Int32} {n : Nat} (h : fmB f n = true) : ∃ i, f = nI i ∧ i < n ∧ i < 2 ^ 31 := by
  have h := of_decide_eq_true h
  have hlt := f.toInt_lt
  refine ⟨f.toInt.toNat, ?_, by omega, by omega⟩
  apply Int32.toInt_inj.mp
  rw [nI_toInt (by omega)]; omega
theorem tm_nat {t : Int32} (h : tmB t = true) : ∃ i, t = nI i ∧ i < 8 ∧ i ≠ 3 := by
  have h := of_decide_eq_true h
  refine ⟨t.toInt.toNat, ?_, by omega, by omega⟩
  apply Int32.toInt_inj.mp
  rw [nI_toInt (by omega)]; omega
theorem ra_nat {t : Int32} {m : Nat} (h : 0 ≤ t.toInt ∧ t.toInt ≤ (m : Int)) (hm : m < 2 ^ 30) : ∃ i, t = nI i ∧ i ≤ m := by
  refine ⟨t.toInt.toNat, ?_, by omega⟩
  apply Int32.toInt_inj.mp
  rw [nI_toInt (by omega)]; omega
