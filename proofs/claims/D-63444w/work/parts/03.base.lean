/-! words that stay true, the world of tables KG, calls and rows over it -/
def mm_nest : Cond → Bool
  | .fieldLinkNest .. => true
  | .methodLinkNest .. => true
  | _ => false
def mm_ok (w : Cond) : Bool := (goodWord w || (w.onTables && w.faceAtom)) || mm_nest w
theorem mm_warm {w : Cond} {s U : State} (hW : s.WarmedH U.vm) (hok : mm_ok w = true) (h : w.before #[] s = true) : w.before #[] U = true := by
  unfold mm_ok at hok
  simp only [Bool.or_eq_true, Bool.and_eq_true] at hok
  rcases hok with (hg | hf) | hn
  · exact word_at hW (good_of_word hg) h
  · exact va_tabs hf.1 (rfl : (s.setVm U.vm).vm = U.vm) (Cond.faceAtom_setVm hW.alike w hf.2 h)
  · cases w <;> first | exact va_Nw.warmF hW h | exact va_Nw.warmM hW h | (simp [mm_nest] at hn; done)
/-- the tables: class numbers and slots; array classes (0 int, 1 long, 2 char, 3 boolean, 4 Object); the mirror of Object[] -/
abbrev mm_G : Type := va_G × (Nat → ClassId) × Nat
abbrev mm_tys (G : mm_G) : List (ClassId × FieldType) := [(G.2.1 0, .int), (G.2.1 1, .long), (G.2.1 2, .char), (G.2.1 3, .boolean), (G.2.1 4, .object "java/lang/Object")]
def KG (G : mm_G) (U : State) : Prop := (∀ w ∈ lw_tbl, mm_ok w = true → w.before #[] U = true) ∧ va_K G.1 cls_all (mm_tys G) U ∧ va_Mi "[Ljava/lang/Object;" G.2.2 U ∧ va_AO "java/lang/Object" U
theorem KG.warm {G : mm_G} {s U : State} (hK : KG G s) (hW : s.WarmedH U.vm) : KG G U :=
  ⟨fun w h1 h2 => mm_warm hW h2 (hK.1 w h1 h2), va_K.moved hW.alike hK.2.1, va_Mi.moved hW.alike hK.2.2.1, va_AO.moved hW.alike hK.2.2.2⟩
theorem KG.w {G : mm_G} {s : State} (hK : KG G s) {w : Cond} (h : w ∈ lw_tbl) {args : Array Value} (ht : w.onTables = true := by rfl) (hok : mm_ok w = true := by rfl) : w.before args s = true := va_any ht (hK.1 w h hok)
theorem KG.wa {G : mm_G} {s : State} (hK : KG G s) {ty : FieldType} (h : Cond.arrayClass ty ∈ lw_tbl) {args : Array Value} : (Cond.arrayClass ty).before args s = true := word_at (State.WarmedH.refl s) (Or.inr ⟨ty, rfl⟩) (hK.1 _ h rfl)
/-- a contract's start: the tables, and a picture of the heap -/
def mm_Pre (G : mm_G) (av : List Value) (pre : Heap → Prop) : Array Value → State → Prop := va_Pc av (fun U => KG G U ∧ pre U.heap)
theorem mm_blind {G : mm_G} {av : List Value} {pre : Heap → Prop} : FrameBlind (mm_Pre G av pre) :=
  fun a U g mk q => ⟨q.1, KG.warm (U := U.calling g mk a) q.2.1 (State.WarmedH.refl U), q.2.2⟩
def bI (b : Bool) : Int32 := if b then 1 else 0
theorem bI_nar (b : Bool) : narrow .boolean (.int (bI b)) = .int (bI b) := by cases b <;> rfl
theorem bI_fit (b : Bool) : fits .boolean (.int (bI b)) = true := by cases b <;> rfl
theorem bI_eq0 {b : Bool} : bI b = 0 ↔ b = false := by cases b <;> decide
theorem bI_ne0 {b : Bool} : ¬ bI b = 0 ↔ b = true := by cases b <;> decide
/-- what a call asks of the words: of a virtual one, a static one, a constructor (with their nest mates') -/
def mm_LB (y : MethodName) (bytes : ByteArray) (maxL : Nat) (ret : Option FieldType) (n : Nat) : Prop :=
  Cond.code y bytes maxL ret ∈ lw_tbl ∧ Cond.initialized y.cls ∈ lw_tbl ∧ y.cls ≠ "java/lang/invoke/MethodHandle" ∧ y.cls ≠ "java/lang/invoke/VarHandle" ∧ (parseMethodDescriptor y.desc).map (fun d => d.parameters.length) = some n
def mm_LV (own : String) (index : Nat) (C : String) (y : MethodName) (bytes : ByteArray) (maxL : Nat) (ret : Option FieldType) (n : Nat) : Prop :=
  mm_LB y bytes maxL ret n ∧ Cond.methodLink own index y ∈ lw_tbl ∧ Cond.instanceMethod y ∈ lw_tbl ∧ Cond.selects C y y ∈ lw_tbl ∧ y.cls = C
def mm_LS (own : String) (index : Nat) (y : MethodName) (bytes : ByteArray) (maxL : Nat) (ret : Option FieldType) (n : Nat) : Prop :=
  mm_LB y bytes maxL ret n ∧ Cond.methodLink own index y ∈ lw_tbl ∧ Cond.static y ∈ lw_tbl
def mm_LSN (own : String) (index : Nat) (host : String) (y : MethodName) (bytes : ByteArray) (maxL : Nat) (ret : Option FieldType) (n : Nat) : Prop :=
  mm_LB y bytes maxL ret n ∧ Cond.methodLinkNest own index y host ∈ lw_tbl ∧ Cond.static y ∈ lw_tbl
def mm_LI (own : String) (index : Nat) (y : MethodName) (bytes : ByteArray) (maxL : Nat) (n : Nat) : Prop :=
  mm_LB y bytes maxL none n ∧ Cond.methodLink own index y ∈ lw_tbl ∧ Cond.instanceMethod y ∈ lw_tbl ∧ y.name = "<init>"
def mm_LIN (own : String) (index : Nat) (host : String) (y : MethodName) (bytes : ByteArray) (maxL : Nat) (n : Nat) : Prop :=
  mm_LB y bytes maxL none n ∧ Cond.methodLinkNest own index y host ∈ lw_tbl ∧ Cond.instanceMethod y ∈ lw_tbl ∧ y.name = "<init>"
/-- inherited or overridden: link names x, the receiver's class C selects y; 'abs': x is abstract -/
def mm_LU (own : String) (index : Nat) (C owner : String) (x y : MethodName) (bytes : ByteArray) (maxL : Nat) (ret : Option FieldType) (n : Nat) : Prop :=
  Cond.code y bytes maxL ret ∈ lw_tbl ∧ Cond.initialized y.cls ∈ lw_tbl ∧ (owner ≠ "java/lang/invoke/MethodHandle" ∧ owner ≠ "java/lang/invoke/VarHandle") ∧ (parseMethodDescriptor x.desc).map (fun d => d.parameters.length) = some n ∧
  Cond.methodLink own index x ∈ lw_tbl ∧ Cond.sameMethod x.cls owner x.name x.desc ∈ lw_tbl ∧ (Cond.declares ⟨owner, x.name, x.desc⟩ ∈ lw_tbl ∨ (Cond.instanceMethod ⟨owner, x.name, x.desc⟩ ∈ lw_tbl ∧ ∃ b0 m0 r0, Cond.code ⟨owner, x.name, x.desc⟩ b0 m0 r0 ∈ lw_tbl)) ∧ Cond.selects C x y ∈ lw_tbl ∧ Cond.instanceMethod y ∈ lw_tbl
theorem mm_len {d : String} {n : Nat} (h : (parseMethodDescriptor d).map (fun d => d.parameters.length) = some n) : ∀ sig, parseMethodDescriptor d = some sig → n = sig.parameters.length := by
  intro sig h2
  rw [h2] at h
  exact (Option.some.inj h).symm
theorem mm_code {y : MethodName} {bytes : ByteArray} {maxL : Nat} {ret : Option FieldType} {s : State} {args : Array Value} (h : (Cond.code y bytes maxL ret).before args s = true) :
    ∀ w ∈ [Cond.code y bytes maxL ret], ∀ (a' : Array Value) (U : State), s.WarmedH U.vm → w.before a' U = true := by
  intro w hw a' U hW
  rw [List.mem_singleton.mp hw]
  exact word_at hW (Or.inl rfl) h
section MMA
variable {p : Program} {l : Launch} {e : Env} {R : Room} {s : State} {m : MethodId} {args : Array Value} {below : List Frame} {meth : Method} {c : Code} {H : Heap} {locs : List Loc} {cells slots : Nat} {Q : State → Prop}
variable {cc : ByteArray} {pc : Nat} {ls : Array Slot} {rest : List Value} {G : mm_G}
/-- a method's contract out of the walk of its body -/
theorem mm_of {y : MethodName} {b : ByteArray} {n : Nat} {ret : Option FieldType} {rm : Room} {av : List Value} {pre : Heap → Prop} {Qc : Array Value → State → Outcome → State → Prop} {mc ms : Nat} {free : Addr → Prop} (hy : plainName y.cls = true) (hn : (lg_sl av).length ≤ n)
    (body : ∀ (p : Program) (e : Env) (s : State) (m : MethodId) (below : List Frame) (meth : Method) (c : Code) (ls : Array Slot), p.tables.exec = Jvm.exec → c.code = b → meth.sig.returnType = ret → meth.locks = false → c.maxLocals = n → s.vm.findClass y.cls = some m.cls → meth.name = y.name → KG G s → pre s.heap → lv_has ls n (lv_args 0 av) → W p l e rm s m av.toArray below meth c s.heap [] 0 0 (MQ below Qc av.toArray s mc ms free) (F0 m 0 ls [])) :
    Met l y [.code y b n ret] rm (mm_Pre G av pre) Qc mc ms free := by
  refine Met.ofW (cc := b) (maxL := n) (ret := ret) hy rfl ?_
  intro p e s m args below meth c s₁ B hml hv
  obtain ⟨rfl, hK, hp⟩ := hv
  rw [lg_entry_eq]
  exact body p e s m below meth c _ B.exec B.bytes B.returns B.notSynchronized hml (findClass_of_methodNamed B.named) (name_of_methodNamed B.named B.method).1 hK hp (lv_entry av hn)
theorem mm_ti {x y : Int32} (h : x = y) (k : W p l e R s m args below meth c H locs cells slots Q (F0 m pc ls (.int y :: rest))) : W p l e R s m args below meth c H locs cells slots Q (F0 m pc ls (.int x :: rest)) := by
  subst h; exact k
theorem mm_tl {x y : Int64} (h : x = y) (k : W p l e R s m args below meth c H locs cells slots Q (F0 m pc ls (.long y :: rest))) : W p l e R s m args below meth c H locs cells slots Q (F0 m pc ls (.long x :: rest)) := by
  subst h; exact k
/-- branches on a truth value -/
theorem mm_ifeqB (hx : p.tables.exec = Jvm.exec) (hb : c.code = cc) {b : Bool} {off : Int} {tgt : Nat} (hdg : decode cc pc = .ok (.ifCond .eq off, 3)) (ht : (pc : Int) + off = (tgt : Int)) (kt : b = false → W p l e R s m args below meth c H locs cells slots Q (F0 m tgt ls rest)) (kf : b = true → W p l e R s m args below meth c H locs cells slots Q (F0 m (pc + 3) ls rest)) : W p l e R s m args below meth c H locs cells slots Q (F0 m pc ls (.int (bI b) :: rest)) :=
  lv_if_eq hx hb hdg ht (fun h => kt (bI_eq0.mp h)) (fun h => kf (bI_ne0.mp h))
theorem mm_ifneB (hx : p.tables.exec = Jvm.exec) (hb : c.code = cc) {b : Bool} {off : Int} {tgt : Nat} (hdg : decode cc pc = .ok (.ifCond .ne off, 3)) (ht : (pc : Int) + off = (tgt : Int)) (kt : b = true → W p l e R s m args below meth c H locs cells slots Q (F0 m tgt ls rest)) (kf : b = false → W p l e R s m args below meth c H locs cells slots Q (F0 m (pc + 3) ls rest)) : W p l e R s m args below meth c H locs cells slots Q (F0 m pc ls (.int (bI b) :: rest)) :=
  lv_if_ne hx hb hdg ht (fun h => kt (bI_ne0.mp h)) (fun h => kf (bI_eq0.mp h))
/-- returns of a method that leaves the heap alone -/
theorem mm_irS {post : Int32 → Prop} {free : Addr → Prop} {v : Int32} (hx : p.tables.exec = Jvm.exec) (hb : c.code = cc) (hr : meth.sig.returnType = some .int) (hk : meth.locks = false) (hdg : decode cc pc = .ok (.ireturn, 1)) (hp : post v) : W p l e R s m args below meth c s.heap [] cells slots (MQ below (vp_Si post) args s cells slots free) (F0 m pc ls [.int v]) :=
  W.iret hx hb hr (fun t ht _ => ⟨v, rfl, hp, ht⟩) (fun q h => by cases h) hdg hk
theorem mm_zrS {post : Int32 → Prop} {free : Addr → Prop} {v : Int32} (b : Bool) (hv : v = bI b) (hx : p.tables.exec = Jvm.exec) (hb : c.code = cc) (hr : meth.sig.returnType = some .boolean) (hk : meth.locks = false) (hdg : decode cc pc = .ok (.ireturn, 1)) (hp : post (bI b)) : W p l e R s m args below meth c s.heap [] cells slots (MQ below (vp_Si post) args s cells slots free) (F0 m pc ls [.int v]) := by
  subst hv
  exact W.zret hx hb hr (bI_nar b) (fun t ht _ => ⟨bI b, rfl, hp, ht⟩) (fun q h => by cases h) hdg hk
theorem mm_lrS {post : Int64 → Prop} {free : Addr → Prop} {v : Int64} (hx : p.tables.exec = Jvm.exec) (hb : c.code = cc) (hr : meth.sig.returnType = some .long) (hk : meth.locks = false) (hdg : decode cc pc = .ok (.lreturn, 1)) (hp : post v) : W p l e R s m args below meth c s.heap [] cells slots (MQ below (vp_Sl post) args s cells slots free) (F0 m pc ls [.long v]) :=
  W.lret hx hb hr (fun t ht _ => ⟨v, rfl, hp, ht⟩) (fun q h => by cases h) hdg hk
theorem mm_arS {post : Option Nat → Prop} {free : Addr → Prop} {rt : FieldType} {v : Value} (r : Option Nat) (hv : v = va_rf r) (hx : p.tables.exec = Jvm.exec) (hb : c.code = cc) (hr : meth.sig.returnType = some rt) (hrt : (∃ n, rt = .object n) ∨ ∃ t, rt = .array t) (hk : meth.locks = false) (hdg : decode cc pc = .ok (.areturn, 1)) (hp : post r) : W p l e R s m args below meth c s.heap [] cells slots (MQ below (va_Sq post) args s cells slots free) (F0 m pc ls [v]) := by
  subst hv
  exact W.aret hx hb hr hrt (va_rf_or r) (fun t ht _ => ⟨r, rfl, hp, ht⟩) (fun q h => by cases h) hdg hk
/-- ends of a method that writes: what holds behind it, and nothing outside A has changed -/
def mm_Qi (post : Int32 → Heap → Prop) (A : Nat → Prop) : Array Value → State → Outcome → State → Prop := va_Qi (fun r u => u = r) (fun (u : Int32) t => post u t.heap) A
def mm_Ql (post : Int64 → Heap → Prop) (A : Nat → Prop) : Array Value → State → Outcome → State → Prop := va_Ql (fun r u => u = r) (fun (u : Int64) t => post u t.heap) A
def mm_Qv (post : Heap → Prop) (A : Nat → Prop) : Array Value → State → Outcome → State → Prop := va_Qv (fun _ : Unit => True) (fun _ t => post t.heap) A
def mm_Qq (post : Option Nat → Heap → Prop) (A : Nat → Prop) : Array Value → State → Outcome → State → Prop := va_Qq (fun r u => u = r) (fun (u : Option Nat) t => post u t.heap) A
theorem mm_irQ {post : Int32 → Heap → Prop} {A : Nat → Prop} {v : Int32} (hx : p.tables.exec = Jvm.exec) (hb : c.code = cc) (hr : meth.sig.returnType = some .int) (hk : meth.locks = false) (hS : va_S A s.heap H locs) (hdg : decode cc pc = .ok (.ireturn, 1)) (hp : post v H) : W p l e R s m args below meth c H locs cells slots (MQ below (mm_Qi post A) args s cells slots A) (F0 m pc ls [.int v]) :=
  W.iret hx hb hr (fun t ht _ => ⟨⟨v, v, rfl, rfl, by subst ht; exact hp⟩, hS.F ht⟩) hS.2.2 hdg hk
theorem mm_zrQ {post : Int32 → Heap → Prop} {A : Nat → Prop} {v : Int32} (b : Bool) (hv : v = bI b) (hx : p.tables.exec = Jvm.exec) (hb : c.code = cc) (hr : meth.sig.returnType = some .boolean) (hk : meth.locks = false) (hS : va_S A s.heap H locs) (hdg : decode cc pc = .ok (.ireturn, 1)) (hp : post (bI b) H) : W p l e R s m args below meth c H locs cells slots (MQ below (mm_Qi post A) args s cells slots A) (F0 m pc ls [.int v]) := by
  subst hv
  exact W.zret hx hb hr (bI_nar b) (fun t ht _ => ⟨⟨bI b, bI b, rfl, rfl, by subst ht; exact hp⟩, hS.F ht⟩) hS.2.2 hdg hk
theorem mm_lrQ {post : Int64 → Heap → Prop} {A : Nat → Prop} {v : Int64} (hx : p.tables.exec = Jvm.exec) (hb : c.code = cc) (hr : meth.sig.returnType = some .long) (hk : meth.locks = false) (hS : va_S A s.heap H locs) (hdg : decode cc pc = .ok (.lreturn, 1)) (hp : post v H) : W p l e R s m args below meth c H locs cells slots (MQ below (mm_Ql post A) args s cells slots A) (F0 m pc ls [.long v]) :=
  W.lret hx hb hr (fun t ht _ => ⟨⟨v, v, rfl, rfl, by subst ht; exact hp⟩, hS.F ht⟩) hS.2.2 hdg hk
theorem mm_vrQ {post : Heap → Prop} {A : Nat → Prop} (hx : p.tables.exec = Jvm.exec) (hb : c.code = cc) (hr : meth.sig.returnType = none) (hk : meth.locks = false) (hS : va_S A s.heap H locs) (hdg : decode cc pc = .ok (.return_, 1)) (hp : post H) : W p l e R s m args below meth c H locs cells slots (MQ below (mm_Qv post A) args s cells slots A) (F0 m pc ls []) :=
  W.vret hx hb hr (fun t ht _ => ⟨⟨(), rfl, trivial, by subst ht; exact hp⟩, hS.F ht⟩) hS.2.2 hdg hk
theorem mm_arQ {post : Option Nat → Heap → Prop} {A : Nat → Prop} {rt : FieldType} {v : Value} (r : Option Nat) (hv : v = va_rf r) (hx : p.tables.exec = Jvm.exec) (hb : c.code = cc) (hr : meth.sig.returnType = some rt) (hrt : (∃ n, rt = .object n) ∨ ∃ t, rt = .array t) (hk : meth.locks = false) (hS : va_S A s.heap H locs) (hdg : decode cc pc = .ok (.areturn, 1)) (hp : post r H) : W p l e R s m args below meth c H locs cells slots (MQ below (mm_Qq post A) args s cells slots A) (F0 m pc ls [v]) := by
  subst hv
  exact W.aret hx hb hr hrt (va_rf_or r) (fun t ht _ => ⟨⟨r, r, rfl, rfl, by subst ht; exact hp⟩, hS.F ht⟩) hS.2.2 hdg hk
/-- calls: the run -/
abbrev mm_room (R rm : Room) (maxL mc ms : Nat) : Prop := rm.cells = mc ∧ rm.slots = ms ∧ rm.frames + 1 ≤ R.frames ∧ 8 + (maxL + 11) + rm.locals ≤ R.locals
theorem mm_cb {own : String} {index : Nat} {y : MethodName} {bytes : ByteArray} {maxL : Nat} {ret : Option FieldType} {rm : Room} {mc ms n : Nat} (hK : KG G s) (lb : mm_LB y bytes maxL ret n) (hl : Cond.methodLink own index y ∈ lw_tbl) (hR : mm_room R rm maxL mc ms) : CallB R s args own index y bytes maxL ret [.code y bytes maxL ret] rm mc ms n :=
  ⟨hR.1, hR.2.1, hR.2.2.1, hR.2.2.2, mm_code (args := args) (hK.w lb.1), List.mem_singleton.mpr rfl, hK.w lb.1, hK.w lb.2.1, ⟨lb.2.2.1, lb.2.2.2.1⟩, mm_len lb.2.2.2.2, hK.w hl⟩
abbrev mm_fix (p : Program) (m : MethodId) (c : Code) (cc : ByteArray) (nL : Nat) (s : State) (own : String) : Prop := p.tables.exec = Jvm.exec ∧ c.code = cc ∧ c.maxLocals = nL ∧ s.vm.findClass own = some m.cls
theorem mm_fx {nL : Nat} {own : String} (F : mm_fix p m c cc nL s own) : CallFix p m c cc nL s args [] own := ⟨F.1, F.2.1, F.2.2.1, F.2.2.2, fun w h => by cases h⟩
variable {own C : String} {index : Nat} {y : MethodName} {bytes : ByteArray} {maxL nL mc ms n : Nat} {ret : Option FieldType} {rm : Room} {pre : Heap → Prop} {Qc : Array Value → State → Outcome → State → Prop} {free : Addr → Prop} {b : Addr} {As st : List Value}
theorem mm_runV (hK : KG G s) (F : mm_fix p m c cc nL s own) (lk : mm_LV own index C y bytes maxL ret n) (hM : Met l y [.code y bytes maxL ret] rm (mm_Pre G (.ref b :: As) pre) Qc mc ms free) (hR : mm_room R rm maxL mc ms) (hr : ∃ cell : Cell, H[b]? = some cell ∧ cell.vm.isStatics = false ∧ s.vm.findClass C = some cell.cls) (hp : pre H) (hn : As.length = n) (hsz : ls.size = nL) (hst : st = As.reverse ++ .ref b :: rest) (hW : (rest.map fun v => v.category).sum ≤ 8) (hf : cells + mc ≤ R.cells ∧ slots + ms ≤ R.slots) (hdg : decode cc pc = .ok (.invokevirtual index, 3)) :
    va_Run p l e R s m args below meth c H locs cells slots mc ms (F0 m pc ls st) rest (Qc (Value.ref b :: As).toArray) free :=
  va_runV (mm_fx F) hM ⟨mm_cb hK lk.1 lk.2.1 hR, hK.w lk.2.2.1, hK.w lk.2.2.2.1⟩ ⟨mm_blind, hr, fun U hU hW => ⟨rfl, hK.warm hW, by rw [hU]; exact hp⟩⟩ rfl hn hsz hst (lv_room hW) hdg hf
theorem mm_runS (hK : KG G s) (F : mm_fix p m c cc nL s own) (lk : mm_LS own index y bytes maxL ret n) (hM : Met l y [.code y bytes maxL ret] rm (mm_Pre G As pre) Qc mc ms free) (hR : mm_room R rm maxL mc ms) (hp : pre H) (hn : As.length = n) (hsz : ls.size = nL) (hst : st = As.reverse ++ rest) (hW : (rest.map fun v => v.category).sum ≤ 8) (hf : cells + mc ≤ R.cells ∧ slots + ms ≤ R.slots) (hdg : decode cc pc = .ok (.invokestatic index, 3)) :
    va_Run p l e R s m args below meth c H locs cells slots mc ms (F0 m pc ls st) rest (Qc As.toArray) free :=
  va_runS (mm_fx F) hM ⟨mm_cb hK lk.1 lk.2.1 hR, hK.w lk.2.2⟩ ⟨mm_blind, fun U hU hW => ⟨rfl, hK.warm hW, by rw [hU]; exact hp⟩⟩ rfl hn hsz hst (lv_room hW) hdg hf
theorem mm_runI (hK : KG G s) (F : mm_fix p m c cc nL s own) (lk : mm_LI own index y bytes maxL n) (hM : Met l y [.code y bytes maxL none] rm (mm_Pre G (.ref b :: As) pre) Qc mc ms free) (hR : mm_room R rm maxL mc ms) (hp : pre H) (hn : As.length = n) (hsz : ls.size = nL) (hst : st = As.reverse ++ .ref b :: rest) (hW : (rest.map fun v => v.category).sum ≤ 8) (hf : cells + mc ≤ R.cells ∧ slots + ms ≤ R.slots) (hdg : decode cc pc = .ok (.invokespecial index, 3)) :
    va_Run p l e R s m args below meth c H locs cells slots mc ms (F0 m pc ls st) rest (Qc (Value.ref b :: As).toArray) free :=
  va_runI (mm_fx F) hM ⟨mm_cb hK lk.1 lk.2.1 hR, lk.2.2.2, hK.w lk.2.2.1⟩ ⟨mm_blind, fun U hU hW => ⟨rfl, hK.warm hW, by rw [hU]; exact hp⟩⟩ rfl hn hsz hst (lv_room hW) hdg hf
theorem mm_cn {host : String} (hK : KG G s) (lb : mm_LB y bytes maxL ret n) (hl : Cond.methodLinkNest own index y host ∈ lw_tbl) (hR : mm_room R rm maxL mc ms) : va_CN R s args own index y host bytes maxL ret [.code y bytes maxL ret] rm mc ms n :=
  ⟨⟨hR.1, hR.2.1, hR.2.2.1, hR.2.2.2, mm_code (args := args) (hK.w lb.1), List.mem_singleton.mpr rfl⟩, hK.w lb.1, hK.w lb.2.1, ⟨lb.2.2.1, lb.2.2.2.1⟩, mm_len lb.2.2.2.2, hK.w hl⟩
theorem mm_runSN {host : String} (hK : KG G s) (F : mm_fix p m c cc nL s own) (lk : mm_LSN own index host y bytes maxL ret n) (hM : Met l y [.code y bytes maxL ret] rm (mm_Pre G As pre) Qc mc ms free) (hR : mm_room R rm maxL mc ms) (hp : pre H) (hn : As.length = n) (hsz : ls.size = nL) (hst : st = As.reverse ++ rest) (hW : (rest.map fun v => v.category).sum ≤ 8) (hf : cells + mc ≤ R.cells ∧ slots + ms ≤ R.slots) (hdg : decode cc pc = .ok (.invokestatic index, 3)) :
    va_Run p l e R s m args below meth c H locs cells slots mc ms (F0 m pc ls st) rest (Qc As.toArray) free :=
  va_runSN (mm_fx F) hM ⟨mm_cn hK lk.1 lk.2.1 hR, hK.w lk.2.2, trivial⟩ ⟨mm_blind, fun U hU hW => ⟨rfl, hK.warm hW, by rw [hU]; exact hp⟩⟩ rfl hn hsz hst (lv_room hW) hdg hf
theorem mm_runIN {host : String} (hK : KG G s) (F : mm_fix p m c cc nL s own) (lk : mm_LIN own index host y bytes maxL n) (hM : Met l y [.code y bytes maxL none] rm (mm_Pre G (.ref b :: As) pre) Qc mc ms free) (hR : mm_room R rm maxL mc ms) (hp : pre H) (hn : As.length = n) (hsz : ls.size = nL) (hst : st = As.reverse ++ .ref b :: rest) (hW : (rest.map fun v => v.category).sum ≤ 8) (hf : cells + mc ≤ R.cells ∧ slots + ms ≤ R.slots) (hdg : decode cc pc = .ok (.invokespecial index, 3)) :
    va_Run p l e R s m args below meth c H locs cells slots mc ms (F0 m pc ls st) rest (Qc (Value.ref b :: As).toArray) free :=
  va_runIN (mm_fx F) hM ⟨mm_cn hK lk.1 lk.2.1 hR, lk.2.2.2, hK.w lk.2.2.1⟩ ⟨mm_blind, fun U hU hW => ⟨rfl, hK.warm hW, by rw [hU]; exact hp⟩⟩ rfl hn hsz hst (lv_room hW) hdg hf
theorem mm_runU {owner : String} {x : MethodName} (hK : KG G s) (F : mm_fix p m c cc nL s own) (lk : mm_LU own index C owner x y bytes maxL ret n) (hM : Met l y [.code y bytes maxL ret] rm (mm_Pre G (.ref b :: As) pre) Qc mc ms free) (hR : mm_room R rm maxL mc ms) (hr : ∃ cell : Cell, H[b]? = some cell ∧ cell.vm.isStatics = false ∧ s.vm.findClass C = some cell.cls) (hp : pre H) (hn : As.length = n) (hsz : ls.size = nL) (hst : st = As.reverse ++ .ref b :: rest) (hW : (rest.map fun v => v.category).sum ≤ 8) (hf : cells + mc ≤ R.cells ∧ slots + ms ≤ R.slots) (hdg : decode cc pc = .ok (.invokevirtual index, 3)) :
    va_Run p l e R s m args below meth c H locs cells slots mc ms (F0 m pc ls st) rest (Qc (Value.ref b :: As).toArray) free := by
  obtain ⟨l1, l2, l3, l4, l5, l6, l7, l8, l9⟩ := lk
  have hdecl : va_Decl s ⟨owner, x.name, x.desc⟩ := by
    rcases l7 with h | ⟨h, b0, m0, r0, h0⟩
    · exact va_Decl.abs (hK.w h)
    · exact va_Decl.of (args := args) (hK.w h) (hK.w h0)
  exact va_runU (mm_fx F) hM ⟨⟨hR.1, hR.2.1, hR.2.2.1, hR.2.2.2, mm_code (args := args) (hK.w l1), List.mem_singleton.mpr rfl⟩, hK.w l1, hK.w l2, l3, mm_len l4, hK.w l5, hK.w l6, hdecl, hK.w l8, hK.w l9⟩ ⟨mm_blind, hr, fun U hU hW => ⟨rfl, hK.warm hW, by rw [hU]; exact hp⟩⟩ rfl hn hsz hst (lv_room hW) hdg hf
/-- calls: how it goes on -/
theorem mm_si {post : Int32 → Prop} {a : Array Value} (hr : va_Run p l e R s m args below meth c H locs cells slots 0 0 (F0 m pc ls st) rest (vp_Si post a) (fun _ => False)) (kk : ∀ r : Int32, post r → W p l e R s m args below meth c H locs cells slots Q (F0 m (pc + 3) ls (.int r :: rest))) : W p l e R s m args below meth c H locs cells slots Q (F0 m pc ls st) := vp_callSi hr.run kk
theorem mm_sl {post : Int64 → Prop} {a : Array Value} (hr : va_Run p l e R s m args below meth c H locs cells slots 0 0 (F0 m pc ls st) rest (vp_Sl post a) (fun _ => False)) (kk : ∀ r : Int64, post r → W p l e R s m args below meth c H locs cells slots Q (F0 m (pc + 3) ls (.long r :: rest))) : W p l e R s m args below meth c H locs cells slots Q (F0 m pc ls st) := vp_callSl hr.run kk
theorem mm_sq {post : Option Nat → Prop} {a : Array Value} (hr : va_Run p l e R s m args below meth c H locs cells slots 0 0 (F0 m pc ls st) rest (va_Sq post a) (fun _ => False)) (kk : ∀ r : Option Nat, post r → W p l e R s m args below meth c H locs cells slots Q (F0 m (pc + 3) ls (va_rf r :: rest))) : W p l e R s m args below meth c H locs cells slots Q (F0 m pc ls st) := va_csq hr.run kk
variable {A A1 : Nat → Prop}
theorem mm_qi {post : Int32 → Heap → Prop} {a : Array Value} (hr : va_Run p l e R s m args below meth c H locs cells slots mc ms (F0 m pc ls st) rest (mm_Qi post A1 a) A1) (hS : va_S A s.heap H locs) (hA : ∀ q, A1 q → A q) (kk : ∀ (r : Int32) (H1 : Heap) (locs1 : List Loc), post r H1 → H.size ≤ H1.size → (∀ q : Nat, q < H.size → ¬ A1 q → H1[q]? = H[q]?) → va_S A s.heap H1 locs1 → W p l e R s m args below meth c H1 locs1 (cells + mc) (slots + ms) Q (F0 m (pc + 3) ls (.int r :: rest))) : W p l e R s m args below meth c H locs cells slots Q (F0 m pc ls st) :=
  va_calli hr hS (fun q _ h => hA q h) hA (fun r u t H1 locs1 ht _ hu hB h1 h2 h3 => kk r H1 locs1 (by subst hu; rw [← ht]; exact hB) h1 h2 h3)
theorem mm_ql {post : Int64 → Heap → Prop} {a : Array Value} (hr : va_Run p l e R s m args below meth c H locs cells slots mc ms (F0 m pc ls st) rest (mm_Ql post A1 a) A1) (hS : va_S A s.heap H locs) (hA : ∀ q, A1 q → A q) (kk : ∀ (r : Int64) (H1 : Heap) (locs1 : List Loc), post r H1 → H.size ≤ H1.size → (∀ q : Nat, q < H.size → ¬ A1 q → H1[q]? = H[q]?) → va_S A s.heap H1 locs1 → W p l e R s m args below meth c H1 locs1 (cells + mc) (slots + ms) Q (F0 m (pc + 3) ls (.long r :: rest))) : W p l e R s m args below meth c H locs cells slots Q (F0 m pc ls st) :=
  va_calll hr hS (fun q _ h => hA q h) hA (fun r u t H1 locs1 ht _ hu hB h1 h2 h3 => kk r H1 locs1 (by subst hu; rw [← ht]; exact hB) h1 h2 h3)
theorem mm_qv {post : Heap → Prop} {a : Array Value} (hr : va_Run p l e R s m args below meth c H locs cells slots mc ms (F0 m pc ls st) rest (mm_Qv post A1 a) A1) (hS : va_S A s.heap H locs) (hA : ∀ q, A1 q → A q) (kk : ∀ (H1 : Heap) (locs1 : List Loc), post H1 → H.size ≤ H1.size → (∀ q : Nat, q < H.size → ¬ A1 q → H1[q]? = H[q]?) → va_S A s.heap H1 locs1 → W p l e R s m args below meth c H1 locs1 (cells + mc) (slots + ms) Q (F0 m (pc + 3) ls rest)) : W p l e R s m args below meth c H locs cells slots Q (F0 m pc ls st) :=
  va_callv hr hS (fun q _ h => hA q h) hA (fun u t H1 locs1 ht _ hu hB h1 h2 h3 => kk H1 locs1 (by rw [← ht]; exact hB) h1 h2 h3)
theorem mm_qq {post : Option Nat → Heap → Prop} {a : Array Value} (hr : va_Run p l e R s m args below meth c H locs cells slots mc ms (F0 m pc ls st) rest (mm_Qq post A1 a) A1) (hS : va_S A s.heap H locs) (hA : ∀ q, A1 q → A q) (kk : ∀ (r : Option Nat) (H1 : Heap) (locs1 : List Loc), post r H1 → H.size ≤ H1.size → (∀ q : Nat, q < H.size → ¬ A1 q → H1[q]? = H[q]?) → va_S A s.heap H1 locs1 → W p l e R s m args below meth c H1 locs1 (cells + mc) (slots + ms) Q (F0 m (pc + 3) ls (va_rf r :: rest))) : W p l e R s m args below meth c H locs cells slots Q (F0 m pc ls st) :=
  va_callq hr hS (fun q _ h => hA q h) hA (fun r u t H1 locs1 ht _ hu hB h1 h2 h3 => kk r H1 locs1 (by subst hu; rw [← ht]; exact hB) h1 h2 h3)
end MMA
