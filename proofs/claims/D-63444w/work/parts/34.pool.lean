/-! the component's cells as a pool: addresses L, contents f -/
def PLc (L : List Nat) (f : Nat → va_E) (a : Nat) (e : va_E) : Prop := a ∈ L ∧ f a = e
def PD (A : Nat → Prop) (L : List Nat) : Prop := L.Nodup ∧ ∀ a, a ∈ L → A a
def EXT (L : List Nat) (f : Nat → va_E) (L1 : List Nat) (f1 : Nat → va_E) : Prop := ∀ a, a ∈ L → a ∈ L1 ∧ f1 a = f a
theorem EXT.rf {L : List Nat} {f : Nat → va_E} : EXT L f L f := fun a h => ⟨h, rfl⟩
theorem EXT.trans {L L1 L2 : List Nat} {f f1 f2 : Nat → va_E} (h : EXT L f L1 f1) (h2 : EXT L1 f1 L2 f2) : EXT L f L2 f2 := fun a ha => ⟨(h2 a (h a ha).1).1, (h2 a (h a ha).1).2.trans (h a ha).2⟩
theorem PLc.ext {L L1 : List Nat} {f f1 : Nat → va_E} {a : Nat} {e : va_E} (h : PLc L f a e) (hX : EXT L f L1 f1) : PLc L1 f1 a e := ⟨(hX a h.1).1, (hX a h.1).2.trans h.2⟩
theorem pl_get {L : List Nat} {f : Nat → va_E} {a : Nat} (h : a ∈ L) : ∃ k : Nat, (va_pl L f)[k]? = some (a, f a) := by
  obtain ⟨k, hk⟩ := va_pl_get (X := []) (f := f) h
  exact ⟨k, hk⟩
theorem pl_of {L : List Nat} {f : Nat → va_E} {k : Nat} {q : Nat × va_E} (h : (va_pl L f)[k]? = some q) : q.1 ∈ L ∧ q.2 = f q.1 := by
  unfold va_pl at h
  rw [List.getElem?_map] at h
  cases hk : L[k]? with
  | none => rw [hk] at h; cases h
  | some a =>
    rw [hk] at h
    have h := Option.some.inj h
    rw [← h]
    exact ⟨List.mem_of_getElem? hk, rfl⟩
theorem pl_at {D : va_G} {cl : List vw_C} {L : List Nat} {f : Nat → va_E} {H : Heap} {a : Nat} {e : va_E} (hP : va_P D cl (va_pl L f) H) (h : PLc L f a e) : va_at D cl (a, e) H := by
  obtain ⟨k, hk⟩ := pl_get (f := f) h.1
  rw [← h.2]
  exact hP k _ hk
theorem pl_1 {D : va_G} {cl : List vw_C} {L : List Nat} {f : Nat → va_E} {H : Heap} {a : Nat} {e : va_E} (hP : va_P D cl (va_pl L f) H) (h : PLc L f a e) : va_P D cl [(a, e)] H := (pl_at hP h).P
theorem pl_cons {D : va_G} {cl : List vw_C} {L : List Nat} {f : Nat → va_E} {H : Heap} {a : Nat} {e : va_E} {ws : va_W} (hP : va_P D cl (va_pl L f) H) (h : PLc L f a e) (hw : va_P D cl ws H) : va_P D cl ((a, e) :: ws) H := (pl_1 hP h).app hw
theorem pl_lt {D : va_G} {cl : List vw_C} {L : List Nat} {f : Nat → va_E} {H : Heap} {a : Nat} (hP : va_P D cl (va_pl L f) H) (h : a ∈ L) : a < H.size := va_at.lt (pl_at hP ⟨h, rfl⟩)
theorem nd_inj {L : List Nat} (h : L.Nodup) {i j a : Nat} (hi : L[i]? = some a) (hj : L[j]? = some a) : i = j := by
  obtain ⟨b1, c1⟩ := List.getElem?_eq_some_iff.mp hi
  obtain ⟨b2, c2⟩ := List.getElem?_eq_some_iff.mp hj
  have key := List.pairwise_iff_getElem.mp h
  rcases Nat.lt_trichotomy i j with h1 | h1 | h1
  · exact absurd (c1.trans c2.symm) (key i j b1 b2 h1)
  · exact h1
  · exact absurd (c2.trans c1.symm) (key j i b2 b1 h1)
theorem PD.D {A : Nat → Prop} {L : List Nat} (h : PD A L) {f : Nat → va_E} : va_D A (va_pl L f) := by
  refine ⟨fun i j p q hi hj hpq => ?_, fun k q hq => h.2 _ (pl_of hq).1⟩
  unfold va_pl at hi hj
  rw [List.getElem?_map] at hi hj
  cases h1 : L[i]? with
  | none => rw [h1] at hi; cases hi
  | some a =>
    cases h2 : L[j]? with
    | none => rw [h2] at hj; cases hj
    | some b =>
      rw [h1] at hi; rw [h2] at hj
      have e1 := Option.some.inj hi; have e2 := Option.some.inj hj
      have hab : a = b := by rw [← e1, ← e2] at hpq; exact hpq
      subst hab
      exact nd_inj h.1 h1 h2
theorem PD.mono {A B : Nat → Prop} {L : List Nat} (h : PD A L) (hAB : ∀ q, A q → B q) : PD B L := ⟨h.1, fun a ha => hAB a (h.2 a ha)⟩
theorem PD.app {A : Nat → Prop} {L N : List Nat} (h : PD A L) (hN : N.Nodup) (hA : ∀ a, a ∈ N → A a) (hx : ∀ a, a ∈ L → a ∉ N) : PD A (L ++ N) := by
  refine ⟨List.nodup_append.mpr ⟨h.1, hN, fun a ha b hb hab => hx a ha (by rw [hab]; exact hb)⟩, fun a ha => ?_⟩
  rcases List.mem_append.mp ha with h1 | h1
  · exact h.2 a h1
  · exact hA a h1
/-- contents overridden by a list of cells -/
def ovf (f : Nat → va_E) : va_W → (Nat → va_E)
  | [] => f
  | q :: r => va_up (ovf f r) q.1 q.2
theorem ovf_out {f : Nat → va_E} {a : Nat} : ∀ (w : va_W), (∀ q, q ∈ w → q.1 ≠ a) → ovf f w a = f a
  | [], _ => rfl
  | q :: r, h => by rw [ovf, va_up_ne _ _ (fun e => h q (List.mem_cons_self ..) e.symm)]; exact ovf_out r (fun p hp => h p (List.mem_cons_of_mem _ hp))
theorem ovf_in {f : Nat → va_E} : ∀ (w : va_W), (w.map Prod.fst).Nodup → ∀ q, q ∈ w → ovf f w q.1 = q.2
  | [], _, q, h => absurd h List.not_mem_nil
  | p :: r, hn, q, h => by
    rw [List.map_cons, List.nodup_cons] at hn
    rw [ovf]
    rcases List.mem_cons.mp h with e | e
    · rw [e, va_up_self]
    · have : q.1 ≠ p.1 := fun he => hn.1 (by rw [← he]; exact List.mem_map_of_mem e)
      rw [va_up_ne _ _ this]
      exact ovf_in r hn.2 q e
theorem D_nodup {A : Nat → Prop} {w : va_W} (h : va_D A w) : (w.map Prod.fst).Nodup := by
  refine List.pairwise_iff_getElem.mpr (fun i j hi hj hij he => ?_)
  rw [List.length_map] at hi hj
  rw [List.getElem_map, List.getElem_map] at he
  have := h.1 i j _ _ (List.getElem?_eq_getElem hi) (List.getElem?_eq_getElem hj) he
  omega
theorem pl_set {A : Nat → Prop} {L : List Nat} {f : Nat → va_E} {a k : Nat} {e : va_E} (hD : va_D A (va_pl L f)) (h : a ∈ L) (hk : (va_pl L f)[k]? = some (a, f a)) : (va_pl L f).set k (a, e) = va_pl L (va_up f a e) := va_pl_set (X := []) hD h hk
/-- behind a call that got the cells wc of the pool and gives wo in their places and the new wn -/
theorem pl_join {D : va_G} {cl : List vw_C} {A : Nat → Prop} {L : List Nat} {f : Nat → va_E} {H H1 : Heap} {wc wo wn : va_W} (hP : va_P D cl (va_pl L f) H) (hL : PD A L) (hk : ∀ q : Nat, q < H.size → ¬ va_A wc H.size q → H1[q]? = H[q]?) (hF : ∀ q, va_A wc H.size q → A q) (hP1 : va_P D cl (wo ++ wn) H1) (hD1 : va_D (va_A wc H.size) (wo ++ wn)) (ho : wo.map Prod.fst = wc.map Prod.fst) :
    ∃ (L1 : List Nat) (f1 : Nat → va_E), va_P D cl (va_pl L1 f1) H1 ∧ PD A L1 ∧ (∀ a e, PLc L f a e → (∀ q, q ∈ wc → q.1 ≠ a) → PLc L1 f1 a e) ∧ (∀ q, q ∈ wc → q.1 ∈ L → ∀ e, (q.1, e) ∈ wo → PLc L1 f1 q.1 e) ∧ (∀ q, q ∈ wn → PLc L1 f1 q.1 q.2 ∧ q.1 ∉ L) ∧ (∀ a, a ∈ L1 → a ∈ L ∨ ∃ e, (a, e) ∈ wn) := by
  have nd := D_nodup hD1
  have new : ∀ q, q ∈ wn → H.size ≤ q.1 := by
    intro q hq
    obtain ⟨k, hk'⟩ := List.getElem?_of_mem hq
    have h2 : (wo ++ wn)[wo.length + k]? = some q := by rw [List.getElem?_append_right (by omega), Nat.add_sub_cancel_left]; exact hk'
    rcases hD1.2 _ _ h2 with ⟨j, e, hj⟩ | h3
    · exfalso
      have h4 : q.1 ∈ wo.map Prod.fst := by rw [ho]; exact List.mem_map.mpr ⟨(q.1, e), List.mem_of_getElem? hj, rfl⟩
      rw [List.map_append, List.nodup_append] at nd
      exact nd.2.2 _ h4 _ (List.mem_map_of_mem hq) rfl
    · exact h3
  have hnew : ∀ a, a ∈ wn.map Prod.fst → H.size ≤ a := by
    intro a ha
    obtain ⟨q, hq, rfl⟩ := List.mem_map.mp ha
    exact new q hq
  have old : ∀ a, a ∈ L → a < H.size := fun a ha => pl_lt hP ha
  have nw : (wn.map Prod.fst).Nodup := by rw [List.map_append, List.nodup_append] at nd; exact nd.2.1
  have keep : ∀ a, a ∈ L → (∀ q, q ∈ wc → q.1 ≠ a) → ovf f (wo ++ wn) a = f a := by
    intro a ha hc
    apply ovf_out
    intro q hq e
    rcases List.mem_append.mp hq with h1 | h1
    · have : q.1 ∈ wc.map Prod.fst := by rw [← ho]; exact List.mem_map_of_mem h1
      obtain ⟨p, hp, hpe⟩ := List.mem_map.mp this
      exact hc p hp (hpe.trans e)
    · have := new q h1; have := old a ha; omega
  have hat : ∀ q, q ∈ wo ++ wn → va_at D cl (q.1, ovf f (wo ++ wn) q.1) H1 := by
    intro q hq
    rw [ovf_in _ nd q hq]
    obtain ⟨k, hk'⟩ := List.getElem?_of_mem hq
    exact hP1 k _ hk'
  refine ⟨L ++ wn.map Prod.fst, ovf f (wo ++ wn), ?_, ?_, ?_, ?_, ?_, ?_⟩
  · intro k q hq
    obtain ⟨h1, h2⟩ := pl_of hq
    have e : q = (q.1, ovf f (wo ++ wn) q.1) := by rw [← h2]
    rw [e]
    by_cases hw : ∃ p, p ∈ wo ++ wn ∧ p.1 = q.1
    · obtain ⟨p, hp, hpe⟩ := hw
      rw [← hpe]; exact hat p hp
    · have hn : ∀ p, p ∈ wo ++ wn → p.1 ≠ q.1 := fun p hp he => hw ⟨p, hp, he⟩
      have hqL : q.1 ∈ L := by
        rcases List.mem_append.mp h1 with h3 | h3
        · exact h3
        · obtain ⟨p, hp, hpe⟩ := List.mem_map.mp h3
          exact absurd hpe (hn p (List.mem_append_right _ hp))
      have hc : ∀ p, p ∈ wc → p.1 ≠ q.1 := by
        intro p hp he
        have : p.1 ∈ wo.map Prod.fst := by rw [ho]; exact List.mem_map_of_mem hp
        obtain ⟨p2, hp2, hpe⟩ := List.mem_map.mp this
        exact hn p2 (List.mem_append_left _ hp2) (hpe.trans he)
      rw [keep _ hqL hc]
      refine va_at.kept (pl_at hP ⟨hqL, rfl⟩) (hk _ (old _ hqL) ?_)
      rintro (⟨j, e2, hj⟩ | h3)
      · exact hc _ (List.mem_of_getElem? hj) rfl
      · have := old _ hqL
        exact absurd h3 (Nat.not_le.mpr this)
  · refine hL.app nw (fun a ha => ?_) (fun a ha hb => ?_)
    · exact hF a (Or.inr (hnew a ha))
    · have := hnew a hb; have := old a ha; omega
  · intro a e h hc
    exact ⟨List.mem_append_left _ h.1, (keep a h.1 hc).trans h.2⟩
  · intro q hq hqL e he
    exact ⟨List.mem_append_left _ hqL, ovf_in _ nd (q.1, e) (List.mem_append_left _ he)⟩
  · intro q hq
    refine ⟨⟨List.mem_append_right _ (List.mem_map_of_mem hq), ovf_in _ nd q (List.mem_append_right _ hq)⟩, fun h => ?_⟩
    have := new q hq; have := old _ h; omega
  · intro a ha
    rcases List.mem_append.mp ha with h1 | h1
    · exact Or.inl h1
    · obtain ⟨q, hq, rfl⟩ := List.mem_map.mp h1
      exact Or.inr ⟨q.2, hq⟩
section MMP
variable {p : Program} {l : Launch} {e : Env} {R : Room} {s : State} {m : MethodId} {args : Array Value} {below : List Frame} {meth : Method} {c : Code} {H : Heap} {locs : List Loc} {cells slots : Nat} {Q : State → Prop}
variable {cc : ByteArray} {pc : Nat} {ls : Array Slot} {rest st : List Value} {G : mm_G} {own : String} {index ci k : Nat} {L : List Nat} {f : Nat → va_E} {a : Nat} {A : Nat → Prop}
theorem p_new {N : Nat} {fs : List Value} (hK : KG G s) (hx : p.tables.exec = Jvm.exec) (hb : c.code = cc) (hown : s.vm.findClass own = some m.cls) (ln : mm_LN own index ci N fs) (hP : va_P G.1 cls_all (va_pl L f) H) (hL : PD A L) (hS : va_S A s.heap H locs) (hA : ∀ q, s.heap.size ≤ q → A q) (hcells : cells + 1 ≤ R.cells) (hslots : slots + N ≤ R.slots) (hdg : decode cc pc = .ok (.new index, 3)) (kk : ∀ (q : Nat) (H1 : Heap) (L1 : List Nat) (f1 : Nat → va_E), va_P G.1 cls_all (va_pl L1 f1) H1 → PD A L1 → va_S A s.heap H1 locs → EXT L f L1 f1 → PLc L1 f1 q (.inr (ci, fs)) → q ∉ L → (∀ a, a ∈ L1 → a ∈ L ∨ a = q) → W p l e R s m args below meth c H1 locs (cells + 1) (slots + N) Q (F0 m (pc + 3) ls (.ref q :: rest))) : W p l e R s m args below meth c H locs cells slots Q (F0 m pc ls rest) := by
  refine mm_new hK hx hb hown ln hP hL.D hS hA hcells hslots hdg (fun q H1 h1 h2 h3 => ?_)
  have hq : q ∉ L := va_pl_fresh2 (X := []) h2
  have hqA : A q := by
    have : (va_pl L f ++ [(q, (.inr (ci, fs) : va_E))])[(va_pl L f).length]? = some (q, .inr (ci, fs)) := by rw [List.getElem?_append_right (Nat.le_refl _), Nat.sub_self]; rfl
    exact h2.2 _ _ this
  rw [va_pl_push hq] at h1
  refine kk q H1 (L ++ [q]) (va_up f q (.inr (ci, fs))) h1 (hL.app (by simp) (fun a ha => by rw [List.mem_singleton.mp ha]; exact hqA) (fun a ha hb => hq (by rw [← List.mem_singleton.mp hb]; exact ha))) h3 (fun a ha => ⟨List.mem_append_left _ ha, va_up_ne _ _ (fun e => hq (e ▸ ha))⟩) ⟨List.mem_append_right _ (List.mem_singleton.mpr rfl), va_up_self _ _ _⟩ hq (fun a ha => ?_)
  rcases List.mem_append.mp ha with h | h
  · exact Or.inl h
  · exact Or.inr (List.mem_singleton.mp h)
theorem p_put (hK : KG G s) (hx : p.tables.exec = Jvm.exec) (hb : c.code = cc) (hown : s.vm.findClass own = some m.cls) {ty : FieldType} (lp : mm_LP own index ci k ty false) (hP : va_P G.1 cls_all (va_pl L f) H) (hL : PD A L) (hS : va_S A s.heap H locs) {fs : List Value} (he : PLc L f a (.inr (ci, fs))) {v : Value} (hn : narrow ty v = v) (hfit : fits ty v = true) (hl : k < fs.length) (hdg : decode cc pc = .ok (.putfield index, 3)) (kk : ∀ (H1 : Heap) (locs1 : List Loc), va_P G.1 cls_all (va_pl L (va_up f a (.inr (ci, fs.set k v)))) H1 → va_S A s.heap H1 locs1 → W p l e R s m args below meth c H1 locs1 cells slots Q (F0 m (pc + 3) ls rest)) : W p l e R s m args below meth c H locs cells slots Q (F0 m pc ls (v :: .ref a :: rest)) := by
  obtain ⟨j, hj⟩ := pl_get (f := f) he.1
  have hj2 := hj
  rw [he.2] at hj2
  refine mm_put hK hx hb hown lp hP hL.D hS j hj2 hn hfit hl hdg (fun H1 locs1 h1 h2 h3 => ?_)
  rw [pl_set hL.D he.1 hj] at h1
  exact kk H1 locs1 h1 h3
theorem p_iastN (hK : KG G s) (hx : p.tables.exec = Jvm.exec) (hb : c.code = cc) (hP : va_P G.1 cls_all (va_pl L f) H) (hL : PD A L) (hS : va_S A s.heap H locs) {n i x : Nat} {g : Nat → Nat} (he : PLc L f a (.inl (G.2.1 0, n, .inl (nA g)))) (hn : n < 2 ^ 31) (hi : i < n) (hdg : decode cc pc = .ok (.iastore, 1)) (kk : ∀ (H1 : Heap) (locs1 : List Loc), va_P G.1 cls_all (va_pl L (va_up f a (.inl (G.2.1 0, n, .inl (nA (va_up g i x)))))) H1 → va_S A s.heap H1 locs1 → W p l e R s m args below meth c H1 locs1 cells slots Q (F0 m (pc + 1) ls rest)) : W p l e R s m args below meth c H locs cells slots Q (F0 m pc ls (.int (nI x) :: .int (nI i) :: .ref a :: rest)) := by
  obtain ⟨j, hj⟩ := pl_get (f := f) he.1
  have hj2 := hj
  rw [he.2] at hj2
  refine mm_iastN hK hx hb hP hL.D hS j hj2 hn hi hdg (fun H1 locs1 h1 h2 h3 => ?_)
  rw [pl_set hL.D he.1 hj] at h1
  exact kk H1 locs1 h1 h3
theorem p_castN (hK : KG G s) (hx : p.tables.exec = Jvm.exec) (hb : c.code = cc) (hP : va_P G.1 cls_all (va_pl L f) H) (hL : PD A L) (hS : va_S A s.heap H locs) {n i x : Nat} {g : Nat → Nat} (he : PLc L f a (.inl (G.2.1 2, n, .inl (nA g)))) (hn : n < 2 ^ 31) (hi : i < n) (hq : x < 65536) (hdg : decode cc pc = .ok (.castore, 1)) (kk : ∀ (H1 : Heap) (locs1 : List Loc), va_P G.1 cls_all (va_pl L (va_up f a (.inl (G.2.1 2, n, .inl (nA (va_up g i x)))))) H1 → va_S A s.heap H1 locs1 → W p l e R s m args below meth c H1 locs1 cells slots Q (F0 m (pc + 1) ls rest)) : W p l e R s m args below meth c H locs cells slots Q (F0 m pc ls (.int (nI x) :: .int (nI i) :: .ref a :: rest)) := by
  obtain ⟨j, hj⟩ := pl_get (f := f) he.1
  have hj2 := hj
  rw [he.2] at hj2
  refine mm_castN hK hx hb hP hL.D hS j hj2 hn hi hq hdg (fun H1 locs1 h1 h2 h3 => ?_)
  rw [pl_set hL.D he.1 hj] at h1
  exact kk H1 locs1 h1 h3
end MMP
