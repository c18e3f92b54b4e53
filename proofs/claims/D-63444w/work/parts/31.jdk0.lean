/-! ArrayList and its kin: rows -/
theorem castO {G : mm_G} {s : State} (hK : KG G s) {ck : Nat} {r : vw_C} (hc : ck < 8) (hr : cls_all[ck]? = some r) : va_Nw (.castable r.1 "java/lang/Object") s := by
  match ck, hc with
  | 0, _ => cases hr; exact hK.w kw_956
  | 1, _ => cases hr; exact hK.w kw_957
  | 2, _ => cases hr; exact hK.w kw_958
  | 3, _ => cases hr; exact hK.w kw_959
  | 4, _ => cases hr; exact hK.w kw_960
  | 5, _ => cases hr; exact hK.w kw_962
  | 6, _ => cases hr; exact hK.w kw_963
  | 7, _ => cases hr; exact hK.w kw_964
theorem cls8 {ck : Nat} (hc : ck < 8) : ∃ r, cls_all[ck]? = some r := by
  match ck, hc with
  | 0, _ => exact ⟨_, rfl⟩
  | 1, _ => exact ⟨_, rfl⟩
  | 2, _ => exact ⟨_, rfl⟩
  | 3, _ => exact ⟨_, rfl⟩
  | 4, _ => exact ⟨_, rfl⟩
  | 5, _ => exact ⟨_, rfl⟩
  | 6, _ => exact ⟨_, rfl⟩
  | 7, _ => exact ⟨_, rfl⟩
theorem va_at.P {D : va_G} {cl : List vw_C} {q : Nat × va_E} {H : Heap} (h : va_at D cl q H) : va_P D cl [q] H := by
  intro k q' hq
  match k with
  | 0 => cases hq; exact h
  | k + 1 => simp at hq
theorem anyA {G : mm_G} {s : State} {H : Heap} {y ck : Nat} {fs : List Value} (hK : KG G s) (hc : ck < 8) (h : va_at G.1 cls_all (y, .inr (ck, fs)) H) : va_Any "java/lang/Object" s H y := by
  obtain ⟨r, hr⟩ := cls8 hc
  exact va_rAny (q0 := 0) hK.2.1 h.P rfl hr (fun comp c0 h1 h2 => vb_asgC (castO hK hc hr) comp c0 h1 h2)
/-- the elements of a list: nodes, outside A -/
def EL (G : mm_G) (A : Nat → Prop) (n : Nat) (g : Nat → Option Nat) (H : Heap) : Prop := ∀ i y, i < n → g i = some y → ¬ A y ∧ ∃ ck fs, ck < 8 ∧ va_at G.1 cls_all (y, .inr (ck, fs)) H
theorem EL.any {G : mm_G} {A : Nat → Prop} {n : Nat} {g : Nat → Option Nat} {s : State} {H : Heap} {locs : List Loc} (h : EL G A n g s.heap) (hK : KG G s) (hS : va_S A s.heap H locs) {i y : Nat} (hi : i < n) (hg : g i = some y) : va_Any "java/lang/Object" s H y := by
  obtain ⟨h1, ck, fs, h2, h3⟩ := h i y hi hg
  exact anyA hK h2 (va_at.kept h3 (hS.2.1 _ (va_at.lt h3) h1))
theorem EL.at {G : mm_G} {A : Nat → Prop} {n : Nat} {g : Nat → Option Nat} {H0 H : Heap} {locs : List Loc} (h : EL G A n g H0) (hS : va_S A H0 H locs) : EL G A n g H := by
  intro i y hi hg
  obtain ⟨h1, ck, fs, h2, h3⟩ := h i y hi hg
  exact ⟨h1, ck, fs, h2, va_at.kept h3 (hS.2.1 _ (va_at.lt h3) h1)⟩
def mm_LF (own : String) (index : Nat) (C : String) (x y : MethodName) (bytes : ByteArray) (maxL : Nat) (ret : Option FieldType) (n : Nat) : Prop :=
  Cond.code y bytes maxL ret ∈ lw_tbl ∧ Cond.initialized y.cls ∈ lw_tbl ∧ (x.cls ≠ "java/lang/invoke/MethodHandle" ∧ x.cls ≠ "java/lang/invoke/VarHandle") ∧ (parseMethodDescriptor x.desc).map (fun d => d.parameters.length) = some n ∧ Cond.methodLink own index x ∈ lw_tbl ∧ Cond.declares x ∈ lw_tbl ∧ (Cond.interfaceMethod x.cls x.cls x.name x.desc ∈ lw_tbl ∧ mm_ok (Cond.interfaceMethod x.cls x.cls x.name x.desc) = true) ∧ Cond.selects C x y ∈ lw_tbl ∧ Cond.instanceMethod y ∈ lw_tbl ∧ Cond.publicMethod y ∈ lw_tbl ∧ Cond.unhidden C x.name x.desc ∈ lw_tbl ∧ Cond.castable C x.cls ∈ lw_tbl
section MMJ
variable {p : Program} {l : Launch} {e : Env} {R : Room} {s : State} {m : MethodId} {args : Array Value} {below : List Frame} {meth : Method} {c : Code} {H : Heap} {locs : List Loc} {cells slots : Nat} {Q : State → Prop}
variable {cc : ByteArray} {pc : Nat} {ls : Array Slot} {rest st : List Value} {G : mm_G} {own : String} {index ci k : Nat} {ws : va_W} {a : Nat} {A A1 : Nat → Prop}
theorem mm_aast (hK : KG G s) (hx : p.tables.exec = Jvm.exec) (hb : c.code = cc) (hP : va_P G.1 cls_all ws H) (hD : va_D A ws) (hS : va_S A s.heap H locs) (q0 : Nat) {n i v : Nat} {f : Nat → Option Nat} (ha : ws[q0]? = some (a, .inl (G.2.1 4, n, .inr (.inr (.inr (.inr f)))))) (hn : n < 2 ^ 31) (hi : i < n) (hv : va_Any "java/lang/Object" s H v) (hdg : decode cc pc = .ok (.aastore, 1)) (kk : ∀ (H1 : Heap) (locs1 : List Loc), va_P G.1 cls_all (ws.set q0 (a, .inl (G.2.1 4, n, .inr (.inr (.inr (.inr (va_up f i (some v)))))))) H1 → va_D A (ws.set q0 (a, .inl (G.2.1 4, n, .inr (.inr (.inr (.inr (va_up f i (some v)))))))) → va_S A s.heap H1 locs1 → W p l e R s m args below meth c H1 locs1 cells slots Q (F0 m (pc + 1) ls rest)) : W p l e R s m args below meth c H locs cells slots Q (F0 m pc ls (.ref v :: .int (nI i) :: .ref a :: rest)) :=
  va_astqM hx hb hK.2.1 hP hD hS q0 4 ha rfl hv (vp_in_nI hi hn) hdg (by rw [nI_clamp (by omega)]; exact kk)
theorem mm_aastN (hK : KG G s) (hx : p.tables.exec = Jvm.exec) (hb : c.code = cc) (hP : va_P G.1 cls_all ws H) (hD : va_D A ws) (hS : va_S A s.heap H locs) (q0 : Nat) {n i : Nat} {f : Nat → Option Nat} (ha : ws[q0]? = some (a, .inl (G.2.1 4, n, .inr (.inr (.inr (.inr f)))))) (hn : n < 2 ^ 31) (hi : i < n) (hdg : decode cc pc = .ok (.aastore, 1)) (kk : ∀ (H1 : Heap) (locs1 : List Loc), va_P G.1 cls_all (ws.set q0 (a, .inl (G.2.1 4, n, .inr (.inr (.inr (.inr (va_up f i none))))))) H1 → va_D A (ws.set q0 (a, .inl (G.2.1 4, n, .inr (.inr (.inr (.inr (va_up f i none))))))) → va_S A s.heap H1 locs1 → W p l e R s m args below meth c H1 locs1 cells slots Q (F0 m (pc + 1) ls rest)) : W p l e R s m args below meth c H locs cells slots Q (F0 m pc ls (.null :: .int (nI i) :: .ref a :: rest)) :=
  va_astqN hx hb hK.2.1 hP hD hS q0 4 ha rfl (vp_in_nI hi hn) hdg (by rw [nI_clamp (by omega)]; exact kk)
theorem mm_newq (hK : KG G s) (hx : p.tables.exec = Jvm.exec) (hb : c.code = cc) (hown : s.vm.findClass own = some m.cls) (hl : Cond.classLink own index "java/lang/Object" ∈ lw_tbl) (hP : va_P G.1 cls_all ws H) (hD : va_D A ws) (hS : va_S A s.heap H locs) (hA : ∀ q, s.heap.size ≤ q → A q) {N : Nat} (hN : N < 2 ^ 20) (hcells : cells + 1 ≤ R.cells) (hslots : slots + N ≤ R.slots) (hdg : decode cc pc = .ok (.anewarray index, 3)) (kk : ∀ (q : Nat) (H1 : Heap), va_P G.1 cls_all (ws ++ [(q, .inl (G.2.1 4, N, .inr (.inr (.inr (.inr (fun _ => none))))))]) H1 → va_D A (ws ++ [(q, .inl (G.2.1 4, N, .inr (.inr (.inr (.inr (fun _ => none))))))]) → va_S A s.heap H1 locs → W p l e R s m args below meth c H1 locs (cells + 1) (slots + N) Q (F0 m (pc + 3) ls (.ref q :: rest))) : W p l e R s m args below meth c H locs cells slots Q (F0 m pc ls (.int (nI N) :: rest)) := by
  refine va_newq hx hb hown (hK.w hl) hK.2.2.2 hK.2.1 hP hD hS hA (nI_pos (by omega)) (nI_clamp (by omega)) (by omega) hcells hslots hdg (fun q cA H1 k1 k2 k3 k4 => ?_)
  have e1 := (k1.2 5 (cA, .object "java/lang/Object") rfl).2
  have e2 := (hK.2.1.2 4 _ rfl).2
  have e3 : cA = G.2.1 4 := mm_RA e1 e2
  subst e3
  exact kk q H1 k2 k3 k4
theorem mm_acls (hK : KG G s) (hP : va_P G.1 cls_all ws H) (q0 : Nat) {n : Nat} {f : Nat → Option Nat} (ha : ws[q0]? = some (a, .inl (G.2.1 4, n, .inr (.inr (.inr (.inr f)))))) : ∃ cell : Cell, H[a]? = some cell ∧ cell.vm.isStatics = false ∧ s.vm.findClass "[Ljava/lang/Object;" = some cell.cls := by
  have h := hP q0 _ ha
  obtain ⟨_, _, _, _, _, h6⟩ := (hK.2.1.2 4 _ rfl).2
  exact ⟨_, h, rfl, h6⟩
theorem mm_getC (hK : KG G s) (hx : p.tables.exec = Jvm.exec) (hb : c.code = cc) (hml : c.maxLocals = ls.size) (hown : s.vm.findClass "java/util/Arrays" = some m.cls) (hP : va_P G.1 cls_all ws H) (q0 : Nat) {n : Nat} {f : Nat → Option Nat} (ha : ws[q0]? = some (a, .inl (G.2.1 4, n, .inr (.inr (.inr (.inr f)))))) (hframes : 1 ≤ R.frames) (hlocals : (rest.map fun v => v.category).sum + 14 ≤ R.locals) (hdg : decode cc pc = .ok (.invokevirtual 86, 3)) (kk : W p l e R s m args below meth c H locs cells slots Q (F0 m (pc + 3) ls (.ref G.2.2 :: rest))) : W p l e R s m args below meth c H locs cells slots Q (F0 m pc ls (.ref a :: rest)) :=
  va_getC hx hb hml hown (hK.w kw_284) (hK.w kw_952) (hK.w kw_951) (hK.w kw_285) (hK.w kw_301) hK.2.2.1 (mm_acls hK hP q0 ha) hframes hlocals hdg kk
theorem mm_copy (hK : KG G s) (hx : p.tables.exec = Jvm.exec) (hb : c.code = cc) (hml : c.maxLocals = ls.size) (hown : s.vm.findClass "java/util/Arrays" = some m.cls) (hP : va_P G.1 cls_all ws H) (hD : va_D A ws) (hS : va_S A s.heap H locs) (q0 q1 : Nat) {a0 n0 n1 k : Nat} {f g : Nat → Option Nat} (ha0 : ws[q0]? = some (a0, .inl (G.2.1 4, n0, .inr (.inr (.inr (.inr f)))))) (ha1 : ws[q1]? = some (a, .inl (G.2.1 4, n1, .inr (.inr (.inr (.inr g)))))) (h0 : n0 < 2 ^ 31) (h4 : k ≤ n0) (h5 : k ≤ n1) (hel : ∀ i y : Nat, i < k → f i = some y → va_Any "java/lang/Object" s H y) (hframes : 1 ≤ R.frames) (hlocals : (rest.map fun v => v.category).sum + (nativeFrameWords "java/lang/System" "arraycopy" 5 + 11) ≤ R.locals) (hdg : decode cc pc = .ok (.invokestatic 150, 3)) (kk : ∀ (H1 : Heap) (locs1 : List Loc), va_P G.1 cls_all (ws.set q1 (a, .inl (G.2.1 4, n1, .inr (.inr (.inr (.inr (va_cpy f g 0 0 k))))))) H1 → va_D A (ws.set q1 (a, .inl (G.2.1 4, n1, .inr (.inr (.inr (.inr (va_cpy f g 0 0 k))))))) → va_S A s.heap H1 locs1 → W p l e R s m args below meth c H1 locs1 cells slots Q (F0 m (pc + 3) ls rest)) : W p l e R s m args below meth c H locs cells slots Q (F0 m pc ls (.int (nI k) :: .int (nI 0) :: .ref a :: .int (nI 0) :: .ref a0 :: rest)) := by
  have e0 : (nI 0).toNatClampNeg = 0 := by decide
  have ek : (nI k).toNatClampNeg = k := nI_clamp (by omega)
  refine va_copyM hx hb hml hown (hK.w kw_311) (hK.w kw_313) (hK.w kw_312) (hK.w kw_12) hK.2.1 hP hD hS q0 q1 4 4 ha0 ha1 rfl rfl (nI_pos (by decide)) (nI_pos (by decide)) (nI_pos (by omega)) (by rw [e0, ek]; omega) (by rw [e0, ek]; omega) (fun i hi y hy => ?_) hframes hlocals hdg ?_
  · rw [e0, Nat.zero_add] at hy
    exact hel i y (by rw [ek] at hi; exact hi) hy
  · rw [e0, ek]; exact kk
variable {C : String} {x y : MethodName} {bytes : ByteArray} {maxL nL mc ms n count : Nat} {ret : Option FieldType} {rm : Room} {pre : Heap → Prop} {Qc : Array Value → State → Outcome → State → Prop} {free : Addr → Prop} {b : Addr} {As : List Value}
theorem mm_runF {q : vw_C} (hK : KG G s) (F : mm_fix p m c cc nL s own) (hq : cls_all[ci]? = some q) (lk : mm_LF own index q.1 x y bytes maxL ret n) (hM : Met l y [.code y bytes maxL ret] rm (mm_Pre G (.ref b :: As) pre) Qc mc ms free) (hR : mm_room R rm maxL mc ms) (hr : ∃ cell : Cell, H[b]? = some cell ∧ cell.vm.isStatics = false ∧ s.vm.findClass q.1 = some cell.cls) (hp : pre H) (hn : As.length = n) (hsz : ls.size = nL) (hst : st = As.reverse ++ .ref b :: rest) (hW : (rest.map fun v => v.category).sum ≤ 8) (hf : cells + mc ≤ R.cells ∧ slots + ms ≤ R.slots) (hdg : decode cc pc = .ok (.invokeinterface index count, 5)) :
    va_Run5 p l e R s m args below meth c H locs cells slots mc ms (F0 m pc ls st) rest (Qc (Value.ref b :: As).toArray) free := by
  obtain ⟨l1, l2, l3, l4, l5, l6, l7, l8, l9, l10, l11, l12⟩ := lk
  exact va_runF (hK.2.1.1 ci q hq).2 (mm_fx F) hM ⟨⟨hR.1, hR.2.1, hR.2.2.1, hR.2.2.2, mm_code (args := args) (hK.w l1), List.mem_singleton.mpr rfl⟩, hK.w l5, hK.w l6, hK.w l7.1 rfl l7.2, hK.w l8, hK.w l9, hK.w l10, hK.w l11, hK.w l12, hK.w l2, hK.w l1, l3, mm_len l4⟩ ⟨mm_blind, hr, fun U hU hW => ⟨rfl, hK.warm hW, by rw [hU]; exact hp⟩⟩ rfl hn hsz hst (lv_room hW) hdg hf
theorem mm_qq5 {post : Option Nat → Heap → Prop} {a : Array Value} (hr : va_Run5 p l e R s m args below meth c H locs cells slots mc ms (F0 m pc ls st) rest (mm_Qq post A1 a) A1) (hS : va_S A s.heap H locs) (hA : ∀ q, A1 q → A q) (kk : ∀ (r : Option Nat) (H1 : Heap) (locs1 : List Loc), post r H1 → H.size ≤ H1.size → (∀ q : Nat, q < H.size → ¬ A1 q → H1[q]? = H[q]?) → va_S A s.heap H1 locs1 → W p l e R s m args below meth c H1 locs1 (cells + mc) (slots + ms) Q (F0 m (pc + 5) ls (va_rf r :: rest))) : W p l e R s m args below meth c H locs cells slots Q (F0 m pc ls st) :=
  va_callFq hr hS (fun q _ h => hA q h) hA (fun r u t H1 locs1 ht _ hu hB h1 h2 h3 => kk r H1 locs1 (by subst hu; rw [← ht]; exact hB) h1 h2 h3)
end MMJ
theorem lf_hasNext : mm_LF "MetricLogMonitor" 148 R_Itr ⟨"java/util/Iterator", "hasNext", "()Z"⟩ y_Itr_hasNext b_Itr_hasNext 1 (some .boolean) 0 := ⟨kw_608, kw_24, ⟨by decide, by decide⟩, by decide +kernel, kw_600, kw_602, ⟨kw_601, by decide⟩, kw_604, kw_606, kw_607, kw_605, kw_603⟩
theorem lf_next : mm_LF "MetricLogMonitor" 153 R_Itr ⟨"java/util/Iterator", "next", "()Ljava/lang/Object;"⟩ y_Itr_next b_Itr_next 3 (some (.object "java/lang/Object")) 0 := ⟨kw_617, kw_24, ⟨by decide, by decide⟩, by decide +kernel, kw_610, kw_612, ⟨kw_611, by decide⟩, kw_613, kw_615, kw_616, kw_614, kw_603⟩
theorem EL.narrow {G : mm_G} {A A1 : Nat → Prop} {n : Nat} {g : Nat → Option Nat} {H : Heap} (h : EL G A n g H) (hA : ∀ q, A1 q → A q) : EL G A1 n g H := by
  intro i y hi hg
  obtain ⟨h1, h2⟩ := h i y hi hg
  exact ⟨fun h => h1 (hA y h), h2⟩
