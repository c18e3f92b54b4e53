/-! rows over KG: fields, arrays by Nat places, new -/
theorem mm_lays {C : String} {T : u_T} {N : Nat} : ∀ w ∈ u_ws C T N, w.onTables = true ∧ mm_ok w = true := by
  intro w hw
  obtain ⟨k, _, rfl⟩ := List.mem_map.mp hw
  unfold u_lay
  split <;> exact ⟨rfl, rfl⟩
theorem KG.lay {G : mm_G} {s : State} (hK : KG G s) {args : Array Value} {C : String} {T : u_T} {N : Nat} (h : ∀ w ∈ u_ws C T N, w ∈ lw_tbl) : ∀ w ∈ u_ws C T N, w.before args s = true :=
  fun w hw => hK.w (h w hw) (mm_lays w hw).1 (mm_lays w hw).2
def mm_LG (own : String) (index ci k : Nat) : Prop := ∃ (C : String) (T : u_T) (N : Nat) (ref : String), cls_all[ci]? = some (C, T, N) ∧ (∀ w ∈ u_ws C T N, w ∈ lw_tbl) ∧ k < N ∧ (Cond.fieldLink own index ref (T k).2.1 (T k).2.2.1 ∈ lw_tbl ∨ ∃ host, Cond.fieldLinkNest own index ref (T k).2.1 (T k).2.2.1 host ∈ lw_tbl) ∧ (ref = (T k).1 ∨ Cond.sameField ref (T k).1 (T k).2.1 (T k).2.2.1 ∈ lw_tbl)
def mm_LP (own : String) (index ci k : Nat) (ty : FieldType) (fin : Bool) : Prop := ∃ (C : String) (T : u_T) (N : Nat) (ref : String) (t0 : Nat → FieldType), cls_all[ci]? = some (C, T, N) ∧ (∀ w ∈ u_ws C T N, w ∈ lw_tbl) ∧ k < N ∧ (Cond.fieldLink own index ref (T k).2.1 (T k).2.2.1 ∈ lw_tbl ∨ (fin = false ∧ ∃ host, Cond.fieldLinkNest own index ref (T k).2.1 (T k).2.2.1 host ∈ lw_tbl)) ∧ (ref = (T k).1 ∨ Cond.sameField ref (T k).1 (T k).2.1 (T k).2.2.1 ∈ lw_tbl) ∧ (∀ j, j < N → parseFieldDescriptor (T j).2.2.1 = some (t0 j)) ∧ (∀ a, a < N → ∀ b, b < N → a ≠ b → (T a).2.1 ≠ (T b).2.1) ∧ (T k).2.2.2 = fin ∧ parseFieldDescriptor (T k).2.2.1 = some ty ∧ (fin = true → (T k).1 = own)
def mm_LN (own : String) (index ci N : Nat) (fs : List Value) : Prop := ∃ (C : String) (T : u_T) (t0 : Nat → FieldType), cls_all[ci]? = some (C, T, N) ∧ (∀ w ∈ u_ws C T N, w ∈ lw_tbl) ∧ (∀ j, j < N → parseFieldDescriptor (T j).2.2.1 = some (t0 j)) ∧ Cond.classLink own index C ∈ lw_tbl ∧ Cond.instantiable C N ∈ lw_tbl ∧ Cond.initialized C ∈ lw_tbl ∧ (∀ j, j < N → defaultValue (t0 j) = vp_V fs j)
theorem mm_RA {s : State} {c1 c2 : ClassId} {ty : FieldType} (h1 : va_RA s c1 ty) (h2 : va_RA s c2 ty) : c1 = c2 := by
  cases ty <;> first | (obtain ⟨_, _, _, _, _, e1⟩ := h1; obtain ⟨_, _, _, _, _, e2⟩ := h2; exact Option.some.inj (e1.symm.trans e2)) | exact Option.some.inj (h1.symm.trans h2)
/-- arrays that hold numbers, truth values -/
abbrev nA (f : Nat → Nat) : Nat → Int32 := fun j => nI (f j)
abbrev bA (f : Nat → Bool) : Nat → Int32 := fun j => bI (f j)
theorem nA_up (f : Nat → Nat) (i x : Nat) : upd (nA f) i (nI x) = nA (va_up f i x) := by
  funext j; unfold upd va_up nA; by_cases h : j = i <;> simp [h]
theorem bA_up (f : Nat → Bool) (i : Nat) (x : Bool) : upd (bA f) i (bI x) = bA (va_up f i x) := by
  funext j; unfold upd va_up bA; by_cases h : j = i <;> simp [h]
theorem upd_up (f : Nat → Int32) (i : Nat) (x : Int32) : upd f i x = va_up f i x := rfl
theorem bI_vn (b : Bool) : vp_nar .boolean (bI b) = bI b := by cases b <;> rfl
section MMR
variable {p : Program} {l : Launch} {e : Env} {R : Room} {s : State} {m : MethodId} {args : Array Value} {below : List Frame} {meth : Method} {c : Code} {H : Heap} {locs : List Loc} {cells slots : Nat} {Q : State → Prop}
variable {cc : ByteArray} {pc : Nat} {ls : Array Slot} {rest : List Value} {G : mm_G} {own : String} {index ci k : Nat} {ws : va_W} {a : Nat} {A : Nat → Prop}
theorem mm_rc {q : vw_C} {fs : List Value} (hK : KG G s) (hP : va_P G.1 cls_all ws H) (q0 : Nat) (he : ws[q0]? = some (a, .inr (ci, fs))) (hc : cls_all[ci]? = some q) : ∃ cell : Cell, H[a]? = some cell ∧ cell.vm.isStatics = false ∧ s.vm.findClass q.1 = some cell.cls := va_recv hK.2.1 hP hc he
theorem mm_get (hK : KG G s) (hx : p.tables.exec = Jvm.exec) (hb : c.code = cc) (hown : s.vm.findClass own = some m.cls) (lg : mm_LG own index ci k) (hP : va_P G.1 cls_all ws H) (q0 : Nat) {fs : List Value} (he : ws[q0]? = some (a, .inr (ci, fs))) {v : Value} (hv : fs[k]? = some v) (hdg : decode cc pc = .ok (.getfield index, 3)) (kk : W p l e R s m args below meth c H locs cells slots Q (F0 m (pc + 3) ls (v :: rest))) : W p l e R s m args below meth c H locs cells slots Q (F0 m pc ls (.ref a :: rest)) := by
  obtain ⟨C, T, N, ref, h1, h2, h3, h4, h5⟩ := lg
  have hsame : ∀ x, s.fieldFound? (T k).1 (T k).2.1 (T k).2.2.1 = some x → s.fieldFound? ref (T k).2.1 (T k).2.2.1 = some x := by
    rcases h5 with h5 | h5
    · intro x hx; rw [h5]; exact hx
    · exact fun x hx => u_same (args := args) (hK.w h5) x hx
  rcases h4 with h4 | ⟨host, h4⟩
  · exact va_get hx hb (hK.lay h2) (fun w h => h) hown hK.2.1 hP q0 he h1 k h3 (hK.w h4) hsame hv hdg kk
  · exact va_getN hx hb (hK.lay h2) (fun w h => h) hown hK.2.1 hP q0 he h1 k h3 (hK.w h4) hsame hv hdg kk
theorem mm_put (hK : KG G s) (hx : p.tables.exec = Jvm.exec) (hb : c.code = cc) (hown : s.vm.findClass own = some m.cls) {ty : FieldType} (lp : mm_LP own index ci k ty false) (hP : va_P G.1 cls_all ws H) (hD : va_D A ws) (hS : va_S A s.heap H locs) (q0 : Nat) {fs : List Value} (he : ws[q0]? = some (a, .inr (ci, fs))) {v : Value} (hn : narrow ty v = v) (hfit : fits ty v = true) (hl : k < fs.length) (hdg : decode cc pc = .ok (.putfield index, 3)) (kk : ∀ (H1 : Heap) (locs1 : List Loc), va_P G.1 cls_all (ws.set q0 (a, .inr (ci, fs.set k v))) H1 → va_D A (ws.set q0 (a, .inr (ci, fs.set k v))) → va_S A s.heap H1 locs1 → W p l e R s m args below meth c H1 locs1 cells slots Q (F0 m (pc + 3) ls rest)) : W p l e R s m args below meth c H locs cells slots Q (F0 m pc ls (v :: .ref a :: rest)) := by
  obtain ⟨C, T, N, ref, t0, h1, h2, h3, h4, h5, h6, h7, h8, h9, -⟩ := lp
  have hsame : ∀ x, s.fieldFound? (T k).1 (T k).2.1 (T k).2.2.1 = some x → s.fieldFound? ref (T k).2.1 (T k).2.2.1 = some x := by
    rcases h5 with h5 | h5
    · intro x hx; rw [h5]; exact hx
    · exact fun x hx => u_same (args := args) (hK.w h5) x hx
  rcases h4 with h4 | ⟨-, host, h4⟩
  · exact va_put hx hb (hK.lay h2) (fun w h => h) t0 h6 h7 hown hK.2.1 hP hD hS q0 he h1 k h3 (hK.w h4) hsame h8 h9 hn hfit hl hdg kk
  · exact va_putN hx hb (hK.lay h2) (fun w h => h) t0 h6 h7 hown hK.2.1 hP hD hS q0 he h1 k h3 (hK.w h4) hsame h8 h9 hn hfit hl hdg kk
theorem mm_putF (hK : KG G s) (hx : p.tables.exec = Jvm.exec) (hb : c.code = cc) (hown : s.vm.findClass own = some m.cls) (hnm : meth.name = "<init>") {ty : FieldType} (lp : mm_LP own index ci k ty true) (hP : va_P G.1 cls_all ws H) (hD : va_D A ws) (hS : va_S A s.heap H locs) (q0 : Nat) {fs : List Value} (he : ws[q0]? = some (a, .inr (ci, fs))) {v : Value} (hn : narrow ty v = v) (hfit : fits ty v = true) (hl : k < fs.length) (hdg : decode cc pc = .ok (.putfield index, 3)) (kk : ∀ (H1 : Heap) (locs1 : List Loc), va_P G.1 cls_all (ws.set q0 (a, .inr (ci, fs.set k v))) H1 → va_D A (ws.set q0 (a, .inr (ci, fs.set k v))) → va_S A s.heap H1 locs1 → W p l e R s m args below meth c H1 locs1 cells slots Q (F0 m (pc + 3) ls rest)) : W p l e R s m args below meth c H locs cells slots Q (F0 m pc ls (v :: .ref a :: rest)) := by
  obtain ⟨C, T, N, ref, t0, h1, h2, h3, h4, h5, h6, h7, h8, h9, h10⟩ := lp
  have hsame : ∀ x, s.fieldFound? (T k).1 (T k).2.1 (T k).2.2.1 = some x → s.fieldFound? ref (T k).2.1 (T k).2.2.1 = some x := by
    rcases h5 with h5 | h5
    · intro x hx; rw [h5]; exact hx
    · exact fun x hx => u_same (args := args) (hK.w h5) x hx
  rcases h4 with h4 | ⟨h, -⟩
  · exact va_putF hx hb (hK.lay h2) (fun w h => h) t0 h6 h7 hown hK.2.1 hP hD hS q0 he h1 k h3 (hK.w h4) hsame h8 hnm (h10 rfl) h9 hn hfit hl hdg kk
  · cases h
theorem mm_new {N : Nat} {fs : List Value} (hK : KG G s) (hx : p.tables.exec = Jvm.exec) (hb : c.code = cc) (hown : s.vm.findClass own = some m.cls) (ln : mm_LN own index ci N fs) (hP : va_P G.1 cls_all ws H) (hD : va_D A ws) (hS : va_S A s.heap H locs) (hA : ∀ q, s.heap.size ≤ q → A q) (hcells : cells + 1 ≤ R.cells) (hslots : slots + N ≤ R.slots) (hdg : decode cc pc = .ok (.new index, 3)) (kk : ∀ (q : Nat) (H1 : Heap), va_P G.1 cls_all (ws ++ [(q, .inr (ci, fs))]) H1 → va_D A (ws ++ [(q, .inr (ci, fs))]) → va_S A s.heap H1 locs → W p l e R s m args below meth c H1 locs (cells + 1) (slots + N) Q (F0 m (pc + 3) ls (.ref q :: rest))) : W p l e R s m args below meth c H locs cells slots Q (F0 m pc ls rest) := by
  obtain ⟨C, T, t0, h1, h2, h3, h4, h5, h6, h7⟩ := ln
  exact va_new hx hb (hK.lay h2) (fun w h => h) t0 h3 hown (hK.w h4) (hK.w h5) (hK.w h6) hK.2.1 hP hD hS hA h1 h7 hcells hslots hdg kk
/-- newarray; t0: the array class's number -/
theorem mm_newa {atype : ArrayType} {ty : FieldType} (hK : KG G s) (hx : p.tables.exec = Jvm.exec) (hb : c.code = cc) (harr : Cond.arrayClass (newarray.typeOf atype) ∈ lw_tbl) (hty : newarray.typeOf atype = ty) (t0 : Nat) (h0 : (mm_tys G)[t0]? = some (G.2.1 t0, ty)) (hP : va_P G.1 cls_all ws H) (hD : va_D A ws) (hS : va_S A s.heap H locs) (hA : ∀ q, s.heap.size ≤ q → A q) {N : Nat} {a0 : vp_A} (ha : ∀ cA : ClassId, vp_cell cA a0 = arrV cA N (fun _ => defaultValue ty)) (hN : N < 2 ^ 20) (hcb : componentBytes ty ≤ 8) (hcells : cells + 1 ≤ R.cells) (hslots : slots + N ≤ R.slots) (hdg : decode cc pc = .ok (.newarray atype, 2)) (kk : ∀ (q : Nat) (H1 : Heap), va_P G.1 cls_all (ws ++ [(q, .inl (G.2.1 t0, a0))]) H1 → va_D A (ws ++ [(q, .inl (G.2.1 t0, a0))]) → va_S A s.heap H1 locs → W p l e R s m args below meth c H1 locs (cells + 1) (slots + N) Q (F0 m (pc + 2) ls (.ref q :: rest))) : W p l e R s m args below meth c H locs cells slots Q (F0 m pc ls (.int (nI N) :: rest)) := by
  refine va_newa hx hb (hK.wa harr) hty hK.2.1 hP hD hS hA ha (nI_pos (by omega)) (nI_clamp (by omega)) ?_ hcells hslots hdg (fun q cA H1 k1 k2 k3 k4 => ?_)
  · calc N * componentBytes ty ≤ 2 ^ 20 * 8 := Nat.mul_le_mul (by omega) hcb
      _ ≤ 536870912 := by decide
  · have e1 := (k1.2 5 (cA, ty) rfl).2
    have e2 := (hK.2.1.2 t0 _ h0).2
    have e3 : cA = G.2.1 t0 := mm_RA e1 e2
    subst e3
    exact kk q H1 k2 k3 k4
theorem mm_iald (hK : KG G s) (hx : p.tables.exec = Jvm.exec) (hb : c.code = cc) (hP : va_P G.1 cls_all ws H) (q0 : Nat) {n i : Nat} {f : Nat → Int32} (ha : ws[q0]? = some (a, .inl (G.2.1 0, n, .inl f))) (hn : n < 2 ^ 31) (hi : i < n) (hdg : decode cc pc = .ok (.iaload, 1)) (kk : W p l e R s m args below meth c H locs cells slots Q (F0 m (pc + 1) ls (.int (f i) :: rest))) : W p l e R s m args below meth c H locs cells slots Q (F0 m pc ls (.int (nI i) :: .ref a :: rest)) :=
  va_iald hx hb hK.2.1 hP q0 0 ha rfl (vp_in_nI hi hn) hdg (by rw [nI_clamp (by omega)]; exact kk)
theorem mm_lald (hK : KG G s) (hx : p.tables.exec = Jvm.exec) (hb : c.code = cc) (hP : va_P G.1 cls_all ws H) (q0 : Nat) {n i : Nat} {f : Nat → Int64} (ha : ws[q0]? = some (a, .inl (G.2.1 1, n, .inr (.inl f)))) (hn : n < 2 ^ 31) (hi : i < n) (hdg : decode cc pc = .ok (.laload, 1)) (kk : W p l e R s m args below meth c H locs cells slots Q (F0 m (pc + 1) ls (.long (f i) :: rest))) : W p l e R s m args below meth c H locs cells slots Q (F0 m pc ls (.int (nI i) :: .ref a :: rest)) :=
  va_lald hx hb hK.2.1 hP q0 1 ha rfl (vp_in_nI hi hn) hdg (by rw [nI_clamp (by omega)]; exact kk)
theorem mm_cald (hK : KG G s) (hx : p.tables.exec = Jvm.exec) (hb : c.code = cc) (hP : va_P G.1 cls_all ws H) (q0 : Nat) {n i : Nat} {f : Nat → Int32} (ha : ws[q0]? = some (a, .inl (G.2.1 2, n, .inl f))) (hn : n < 2 ^ 31) (hi : i < n) (hdg : decode cc pc = .ok (.caload, 1)) (kk : W p l e R s m args below meth c H locs cells slots Q (F0 m (pc + 1) ls (.int (f i) :: rest))) : W p l e R s m args below meth c H locs cells slots Q (F0 m pc ls (.int (nI i) :: .ref a :: rest)) :=
  va_cald hx hb hK.2.1 hP q0 2 ha rfl (vp_in_nI hi hn) hdg (by rw [nI_clamp (by omega)]; exact kk)
theorem mm_zald (hK : KG G s) (hx : p.tables.exec = Jvm.exec) (hb : c.code = cc) (hP : va_P G.1 cls_all ws H) (q0 : Nat) {n i : Nat} {f : Nat → Int32} (ha : ws[q0]? = some (a, .inl (G.2.1 3, n, .inl f))) (hn : n < 2 ^ 31) (hi : i < n) (hdg : decode cc pc = .ok (.baload, 1)) (kk : W p l e R s m args below meth c H locs cells slots Q (F0 m (pc + 1) ls (.int (f i) :: rest))) : W p l e R s m args below meth c H locs cells slots Q (F0 m pc ls (.int (nI i) :: .ref a :: rest)) :=
  va_zald hx hb hK.2.1 hP q0 3 ha rfl (vp_in_nI hi hn) hdg (by rw [nI_clamp (by omega)]; exact kk)
theorem mm_aald (hK : KG G s) (hx : p.tables.exec = Jvm.exec) (hb : c.code = cc) (hP : va_P G.1 cls_all ws H) (q0 : Nat) {n i : Nat} {f : Nat → Option Nat} (ha : ws[q0]? = some (a, .inl (G.2.1 4, n, .inr (.inr (.inr (.inr f)))))) (hn : n < 2 ^ 31) (hi : i < n) (hdg : decode cc pc = .ok (.aaload, 1)) (kk : W p l e R s m args below meth c H locs cells slots Q (F0 m (pc + 1) ls (va_rf (f i) :: rest))) : W p l e R s m args below meth c H locs cells slots Q (F0 m pc ls (.int (nI i) :: .ref a :: rest)) :=
  va_aldq hx hb hK.2.1 hP q0 4 ha rfl (vp_in_nI hi hn) hdg (by rw [nI_clamp (by omega)]; exact kk)
theorem mm_iast (hK : KG G s) (hx : p.tables.exec = Jvm.exec) (hb : c.code = cc) (hP : va_P G.1 cls_all ws H) (hD : va_D A ws) (hS : va_S A s.heap H locs) (q0 : Nat) {n i : Nat} {x : Int32} {f : Nat → Int32} (ha : ws[q0]? = some (a, .inl (G.2.1 0, n, .inl f))) (hn : n < 2 ^ 31) (hi : i < n) (hdg : decode cc pc = .ok (.iastore, 1)) (kk : ∀ (H1 : Heap) (locs1 : List Loc), va_P G.1 cls_all (ws.set q0 (a, .inl (G.2.1 0, n, .inl (va_up f i x)))) H1 → va_D A (ws.set q0 (a, .inl (G.2.1 0, n, .inl (va_up f i x)))) → va_S A s.heap H1 locs1 → W p l e R s m args below meth c H1 locs1 cells slots Q (F0 m (pc + 1) ls rest)) : W p l e R s m args below meth c H locs cells slots Q (F0 m pc ls (.int x :: .int (nI i) :: .ref a :: rest)) :=
  va_iast hx hb hK.2.1 hP hD hS q0 0 ha rfl (vp_in_nI hi hn) hdg (by rw [nI_clamp (by omega)]; exact kk)
theorem mm_iastN (hK : KG G s) (hx : p.tables.exec = Jvm.exec) (hb : c.code = cc) (hP : va_P G.1 cls_all ws H) (hD : va_D A ws) (hS : va_S A s.heap H locs) (q0 : Nat) {n i x : Nat} {f : Nat → Nat} (ha : ws[q0]? = some (a, .inl (G.2.1 0, n, .inl (nA f)))) (hn : n < 2 ^ 31) (hi : i < n) (hdg : decode cc pc = .ok (.iastore, 1)) (kk : ∀ (H1 : Heap) (locs1 : List Loc), va_P G.1 cls_all (ws.set q0 (a, .inl (G.2.1 0, n, .inl (nA (va_up f i x))))) H1 → va_D A (ws.set q0 (a, .inl (G.2.1 0, n, .inl (nA (va_up f i x))))) → va_S A s.heap H1 locs1 → W p l e R s m args below meth c H1 locs1 cells slots Q (F0 m (pc + 1) ls rest)) : W p l e R s m args below meth c H locs cells slots Q (F0 m pc ls (.int (nI x) :: .int (nI i) :: .ref a :: rest)) :=
  va_iast hx hb hK.2.1 hP hD hS q0 0 ha rfl (vp_in_nI hi hn) hdg (by rw [nI_clamp (by omega), nA_up]; exact kk)
theorem mm_last (hK : KG G s) (hx : p.tables.exec = Jvm.exec) (hb : c.code = cc) (hP : va_P G.1 cls_all ws H) (hD : va_D A ws) (hS : va_S A s.heap H locs) (q0 : Nat) {n i : Nat} {x : Int64} {f : Nat → Int64} (ha : ws[q0]? = some (a, .inl (G.2.1 1, n, .inr (.inl f)))) (hn : n < 2 ^ 31) (hi : i < n) (hdg : decode cc pc = .ok (.lastore, 1)) (kk : ∀ (H1 : Heap) (locs1 : List Loc), va_P G.1 cls_all (ws.set q0 (a, .inl (G.2.1 1, n, .inr (.inl (va_up f i x))))) H1 → va_D A (ws.set q0 (a, .inl (G.2.1 1, n, .inr (.inl (va_up f i x))))) → va_S A s.heap H1 locs1 → W p l e R s m args below meth c H1 locs1 cells slots Q (F0 m (pc + 1) ls rest)) : W p l e R s m args below meth c H locs cells slots Q (F0 m pc ls (.long x :: .int (nI i) :: .ref a :: rest)) :=
  va_last hx hb hK.2.1 hP hD hS q0 1 ha rfl (vp_in_nI hi hn) hdg (by rw [nI_clamp (by omega)]; exact kk)
theorem mm_castN (hK : KG G s) (hx : p.tables.exec = Jvm.exec) (hb : c.code = cc) (hP : va_P G.1 cls_all ws H) (hD : va_D A ws) (hS : va_S A s.heap H locs) (q0 : Nat) {n i x : Nat} {f : Nat → Nat} (ha : ws[q0]? = some (a, .inl (G.2.1 2, n, .inl (nA f)))) (hn : n < 2 ^ 31) (hi : i < n) (hq : x < 65536) (hdg : decode cc pc = .ok (.castore, 1)) (kk : ∀ (H1 : Heap) (locs1 : List Loc), va_P G.1 cls_all (ws.set q0 (a, .inl (G.2.1 2, n, .inl (nA (va_up f i x))))) H1 → va_D A (ws.set q0 (a, .inl (G.2.1 2, n, .inl (nA (va_up f i x))))) → va_S A s.heap H1 locs1 → W p l e R s m args below meth c H1 locs1 cells slots Q (F0 m (pc + 1) ls rest)) : W p l e R s m args below meth c H locs cells slots Q (F0 m pc ls (.int (nI x) :: .int (nI i) :: .ref a :: rest)) := by
  have e : vp_nar .char (nI x) = nI x := by unfold vp_nar; rw [(pk_charN hq).1]
  exact va_cast hx hb hK.2.1 hP hD hS q0 2 ha rfl (vp_in_nI hi hn) hdg (by rw [nI_clamp (by omega), e, nA_up]; exact kk)
theorem mm_zast (hK : KG G s) (hx : p.tables.exec = Jvm.exec) (hb : c.code = cc) (hP : va_P G.1 cls_all ws H) (hD : va_D A ws) (hS : va_S A s.heap H locs) (q0 : Nat) {n i : Nat} {x : Bool} {f : Nat → Bool} (ha : ws[q0]? = some (a, .inl (G.2.1 3, n, .inl (bA f)))) (hn : n < 2 ^ 31) (hi : i < n) (hdg : decode cc pc = .ok (.bastore, 1)) (kk : ∀ (H1 : Heap) (locs1 : List Loc), va_P G.1 cls_all (ws.set q0 (a, .inl (G.2.1 3, n, .inl (bA (va_up f i x))))) H1 → va_D A (ws.set q0 (a, .inl (G.2.1 3, n, .inl (bA (va_up f i x))))) → va_S A s.heap H1 locs1 → W p l e R s m args below meth c H1 locs1 cells slots Q (F0 m (pc + 1) ls rest)) : W p l e R s m args below meth c H locs cells slots Q (F0 m pc ls (.int (bI x) :: .int (nI i) :: .ref a :: rest)) :=
  va_zast hx hb hK.2.1 hP hD hS q0 3 ha rfl (vp_in_nI hi hn) hdg (by rw [nI_clamp (by omega), bI_vn, bA_up]; exact kk)
/-- the read-only part of a world: what holds at the entry outside A, holds all along -/
theorem mm_ro {rs : va_W} (hR : va_P G.1 cls_all rs s.heap) (hN : ∀ q ∈ rs, ¬ A q.1) (hS : va_S A s.heap H locs) : va_P G.1 cls_all rs H :=
  va_P.kept hR fun k q hq => hS.2.1 _ (va_at.lt (hR k q hq)) (hN q (List.mem_of_getElem? hq))
end MMR
