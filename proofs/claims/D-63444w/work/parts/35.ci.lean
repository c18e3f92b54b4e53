/-! the component's state in the pool -/
/-- the class of a kind of formula -/
def clN (k : Nat) : Nat := if k = 0 then 0 else if k ≤ 2 then 1 else if k = 3 then 2 else if k ≤ 5 then 3 else if k = 6 then 4 else if k = 7 then 5 else if k = 8 then 6 else 7
theorem clN_lt (k : Nat) : clN k < 8 := by unfold clN; (repeat' split) <;> omega
def lfR (q ad : Nat → Nat → Nat) (k : Nat) : Option Nat := if q 0 k ≤ 2 then none else some (ad 0 (q 2 k))
def rtR (q ad : Nat → Nat → Nat) (k : Nat) : Option Nat := if q 0 k = 4 ∨ q 0 k = 5 ∨ 8 ≤ q 0 k then some (ad 0 (q 3 k)) else none
def exL (q ad : Nat → Nat → Nat) (k : Nat) : List Value :=
  if q 0 k = 0 then [.int (nI (q 1 k)), .int (nI (q 2 k)), .int (nI (q 3 k))] else if q 0 k ≤ 2 then [.long (cpS (decide (q 0 k = 2)) (q 2 k) (q 3 k) 16)] else if q 0 k = 3 then [] else if q 0 k ≤ 5 then [.int (bI (decide (q 0 k = 4)))] else if q 0 k = 6 then [.int (nI (q 1 k))] else if q 0 k = 7 then [.ref (ad 3 k)] else [.ref (ad 3 k), .ref (ad 2 k), .int (nI (q 9 k))]
/-- attributes q: 0 kind, 1 which, 2 first, 3 second, 4 low, 5 high + 1, 6 free, 7 ranged, 8 ready, 9 head or seen; addresses ad: 0 node, 1 sets, 2 held or alive, 3 interval -/
def ndE (q ad : Nat → Nat → Nat) (CL : Nat → Bool) (k : Nat) : va_E := .inr (clN (q 0 k), [va_rf (lfR q ad k), va_rf (rtR q ad k), .int (nI (q 6 k)), .int (nI (q 7 k)), .int (bI (CL k)), .ref (ad 1 k), .int (nI (q 8 k))] ++ exL q ad k)
abbrev lgE (G : mm_G) (g : Nat → Int64) : va_E := .inl (G.2.1 1, 24, .inr (.inl g))
def FC (G : mm_G) (q ad : Nat → Nat → Nat) (CL : Nat → Bool) (ss : Nat → Nat → Nat → Int64) (L : List Nat) (f : Nat → va_E) (k : Nat) : Prop := PLc L f (ad 0 k) (ndE q ad CL k) ∧ PLc L f (ad 1 k) (lgE G (ss 0 k)) ∧ (7 ≤ q 0 k → PLc L f (ad 3 k) (.inr (8, [.int (nI (q 4 k)), .int (nI (q 5 k) - 1)]))) ∧ (8 ≤ q 0 k → PLc L f (ad 2 k) (lgE G (ss 1 k)))
/-- addresses xs: 0 the monitor, 1 its list, 2 its log, 3 times, 4 pairs, 5 the list's array (5 = 1: none yet) -/
def ALf (G : mm_G) (Z : Nat × Nat) (xs : Nat → Nat) (n : Nat) (nd : Nat → Nat) (L : List Nat) (f : Nat → va_E) : Prop := ∃ mcn : Int32, (n = 0 ∧ xs 5 = xs 1 ∧ PLc L f (xs 1) (.inr (11, [.ref Z.1, .int (nI 0), .int mcn]))) ∨ ∃ (cap : Nat) (g : Nat → Option Nat), (cap = 10 ∨ cap = 15) ∧ n ≤ cap ∧ PLc L f (xs 1) (.inr (11, [.ref (xs 5), .int (nI n), .int mcn])) ∧ PLc L f (xs 5) (.inl (G.2.1 4, cap, .inr (.inr (.inr (.inr g))))) ∧ ∀ k, k < n → g k = some (nd k)
def LGf (G : mm_G) (xs : Nat → Nat) (np : Nat) (tm pv : Nat → Nat) (L : List Nat) (f : Nat → va_E) : Prop := PLc L f (xs 2) (.inr (9, [.ref (xs 3), .int (nI np), .ref (xs 4)])) ∧ PLc L f (xs 3) (.inl (G.2.1 0, 24, .inl (nA tm))) ∧ PLc L f (xs 4) (.inl (G.2.1 2, 3, .inl (nA pv)))
def XOf (xs : Nat → Nat) (wt : Bool) (L : List Nat) (f : Nat → va_E) : Prop := PLc L f (xs 0) (.inr (10, [.ref (xs 1), .ref (xs 2), .int (bI wt)]))
def RHO (rh : Nat → Nat × Nat) (q ad : Nat → Nat → Nat) (xs : Nat → Nat) (n : Nat) : Prop := (rh (xs 0) = (12, 0) ∧ rh (xs 1) = (12, 1) ∧ rh (xs 2) = (12, 2) ∧ rh (xs 3) = (12, 3) ∧ rh (xs 4) = (12, 4) ∧ (xs 5 ≠ xs 1 → rh (xs 5) = (12, 5))) ∧ ∀ k, k < n → rh (ad 0 k) = (k, 0) ∧ rh (ad 1 k) = (k, 1) ∧ (8 ≤ q 0 k → rh (ad 2 k) = (k, 2)) ∧ (7 ≤ q 0 k → rh (ad 3 k) = (k, 3))
def CI (G : mm_G) (Z : Nat × Nat) (xs : Nat → Nat) (n : Nat) (wt : Bool) (np : Nat) (tm pv : Nat → Nat) (q ad : Nat → Nat → Nat) (CL : Nat → Bool) (ss : Nat → Nat → Nat → Int64) (rh : Nat → Nat × Nat) (L : List Nat) (f : Nat → va_E) : Prop := XOf xs wt L f ∧ ALf G Z xs n (ad 0) L f ∧ LGf G xs np tm pv L f ∧ (∀ k, k < n → FC G q ad CL ss L f k) ∧ RHO rh q ad xs n
theorem ne_ent {L : List Nat} {f : Nat → va_E} {a b : Nat} {e e2 : va_E} (h1 : PLc L f a e) (h2 : PLc L f b e2) (he : e ≠ e2) : a ≠ b := fun h => he (by rw [← h1.2, ← h2.2, h])
theorem fa_1 {α : Type} {P : α → Prop} {c : α} (h : P c) : ∀ q, q ∈ [c] → P q := fun q hq => by rw [List.mem_singleton.mp hq]; exact h
theorem fa_2 {α : Type} {P : α → Prop} {c d : α} (h : P c) (h2 : P d) : ∀ q, q ∈ [c, d] → P q := fun q hq => by
  rcases List.mem_cons.mp hq with e | e
  · rw [e]; exact h
  · exact fa_1 h2 q e
theorem fa_3 {α : Type} {P : α → Prop} {c d b : α} (h : P c) (h2 : P d) (h3 : P b) : ∀ q, q ∈ [c, d, b] → P q := fun q hq => by
  rcases List.mem_cons.mp hq with e | e
  · rw [e]; exact h
  · exact fa_2 h2 h3 q e
theorem wD {w : va_W} {sz : Nat} (h : (w.map Prod.fst).Nodup) : va_D (va_A w sz) w := by
  refine ⟨fun i j p q hi hj hpq => ?_, fun k q hq => va_A.in hq⟩
  refine nd_inj h (a := p.1) ?_ ?_
  · rw [List.getElem?_map, hi]; rfl
  · rw [List.getElem?_map, hj, hpq]; rfl
theorem nd1 {a : Nat} {e : va_E} : (([(a, e)] : va_W).map Prod.fst).Nodup := by simp
theorem nd2 {a b : Nat} {e e2 : va_E} (h : a ≠ b) : (([(a, e), (b, e2)] : va_W).map Prod.fst).Nodup := by simp [h]
theorem nd3 {a b c : Nat} {e e2 e3 : va_E} (h : a ≠ b) (h2 : a ≠ c) (h3 : b ≠ c) : (([(a, e), (b, e2), (c, e3)] : va_W).map Prod.fst).Nodup := by simp [h, h2, h3]
theorem wF {A : Nat → Prop} {L : List Nat} {w : va_W} {H H0 : Heap} (hL : PD A L) (hA : ∀ q, H0.size ≤ q → A q) (hle : H0.size ≤ H.size) (hw : ∀ q, q ∈ w → q.1 ∈ L) : ∀ q, va_A w H.size q → A q := by
  rintro q (⟨k, e, hk⟩ | h)
  · exact hL.2 q (hw _ (List.mem_of_getElem? hk))
  · exact hA q (Nat.le_trans hle h)
theorem castF {G : mm_G} {s : State} (hK : KG G s) {ck : Nat} {r : vw_C} (hc : ck < 8) (hr : cls_all[ck]? = some r) : va_Nw (.castable r.1 "MetricLogMonitor$Formula") s := by
  match ck, hc with
  | 0, _ => cases hr; exact hK.w kw_942
  | 1, _ => cases hr; exact hK.w kw_943
  | 2, _ => cases hr; exact hK.w kw_946
  | 3, _ => cases hr; exact hK.w kw_945
  | 4, _ => cases hr; exact hK.w kw_944
  | 5, _ => cases hr; exact hK.w kw_947
  | 6, _ => cases hr; exact hK.w kw_948
  | 7, _ => cases hr; exact hK.w kw_949
section MMC
variable {p : Program} {l : Launch} {e : Env} {R : Room} {s : State} {m : MethodId} {args : Array Value} {below : List Frame} {meth : Method} {c : Code} {H : Heap} {locs : List Loc} {cells slots : Nat} {Q : State → Prop}
variable {cc : ByteArray} {pc : Nat} {ls : Array Slot} {rest st : List Value} {G : mm_G} {a index ck : Nat} {fs : List Value}
theorem mm_castF (hK : KG G s) (hx : p.tables.exec = Jvm.exec) (hb : c.code = cc) (hown : s.vm.findClass "MetricLogMonitor" = some m.cls) (hl : Cond.classLink "MetricLogMonitor" index "MetricLogMonitor$Formula" ∈ lw_tbl) (h : va_at G.1 cls_all (a, .inr (ck, fs)) H) (hc : ck < 8) (hdg : decode cc pc = .ok (.checkcast index, 3)) (k : W p l e R s m args below meth c H locs cells slots Q (F0 m (pc + 3) ls (.ref a :: rest))) : W p l e R s m args below meth c H locs cells slots Q (F0 m pc ls (.ref a :: rest)) := by
  obtain ⟨r, hr⟩ := cls8 hc
  exact va_castY hx hb hown (hK.w hl) (castF hK hc hr) (va_recv hK.2.1 h.P hr (q0 := 0) rfl) hdg k
theorem mm_tv {v v2 : Value} (h : v = v2) (k : W p l e R s m args below meth c H locs cells slots Q (F0 m pc ls (v2 :: rest))) : W p l e R s m args below meth c H locs cells slots Q (F0 m pc ls (v :: rest)) := by subst h; exact k
end MMC
