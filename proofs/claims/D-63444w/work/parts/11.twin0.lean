/-! the twin's world: one object and fourteen arrays; the words for its numbers -/
abbrev eA (f : Nat → Nat) : Nat → Int32 := fun j => nI (f j) - 1
abbrev TW (G : mm_G) (o : Nat) (ad : Nat → Nat) (nf : Nat) (wt : Bool) (np : Nat) (kK kW kF kS kL kE tm pr ga : Nat → Nat) (ho : Nat → Int64) (pa : Nat → Bool) (fr rg re : Nat → Nat) : va_W :=
  [(o, .inr (13, [.int (nI nf), .ref (ad 0), .ref (ad 1), .ref (ad 2), .ref (ad 3), .ref (ad 4), .ref (ad 5), .int (bI wt), .int (nI np), .ref (ad 6), .ref (ad 7), .ref (ad 8), .ref (ad 9), .ref (ad 10), .ref (ad 11), .ref (ad 12), .ref (ad 13)])),
   (ad 0, .inl (G.2.1 0, 12, .inl (nA kK))), (ad 1, .inl (G.2.1 0, 12, .inl (nA kW))), (ad 2, .inl (G.2.1 0, 12, .inl (nA kF))), (ad 3, .inl (G.2.1 0, 12, .inl (nA kS))), (ad 4, .inl (G.2.1 0, 12, .inl (nA kL))), (ad 5, .inl (G.2.1 0, 12, .inl (eA kE))),
   (ad 6, .inl (G.2.1 0, 24, .inl (nA tm))), (ad 7, .inl (G.2.1 0, 72, .inl (nA pr))), (ad 8, .inl (G.2.1 0, 3, .inl (nA ga))), (ad 9, .inl (G.2.1 1, 288, .inr (.inl ho))), (ad 10, .inl (G.2.1 3, 12, .inl (bA pa))), (ad 11, .inl (G.2.1 0, 12, .inl (nA fr))), (ad 12, .inl (G.2.1 0, 12, .inl (nA rg))), (ad 13, .inl (G.2.1 0, 12, .inl (nA re)))]
def tmB (t : Int32) : Bool := decide (0 ≤ t.toInt ∧ t.toInt ≤ 7 ∧ t.toInt ≠ 3)
def fmB (f : Int32) (nf : Nat) : Bool := decide (0 ≤ f.toInt ∧ f.toInt < nf)
def ivB (lo hi : Int32) (op : Bool) : Bool := decide (0 ≤ lo.toInt ∧ lo.toInt ≤ 1000000 ∧ ((lo.toInt ≤ hi.toInt ∧ hi.toInt ≤ 1000000) ∨ (op = true ∧ hi.toInt = -1)))
def mkB (wt : Bool) (nf : Nat) : Bool := decide (wt = false ∧ nf < 12)
def vrN (t : Nat) : Nat := if t ≤ 2 then 2 ^ t else 0
def vlN (t n : Nat) : Nat := if t ≤ 2 then n / 4 ^ t % 4 else t - 4
def tb (x : Int64) (n : Nat) : Bool := x.toBitVec.getLsbD n
def liB (lo e d : Nat) : Bool := decide (lo ≤ d ∧ (e = 0 ∨ d < e))
theorem eA_up (f : Nat → Nat) (i x : Nat) : upd (eA f) i (nI x - 1) = eA (va_up f i x) := by
  funext j; unfold upd va_up eA; by_cases h : j = i <;> simp [h]
theorem vr_lem : ∀ t, t ≤ 2 → nI 1 <<< (nI t &&& 31) = nI (2 ^ t) := by decide
theorem vl_lem : ∀ t, t ≤ 2 → ∀ n, n < 64 → (nI n >>> (nI (2 * t) &&& 31)) &&& nI 3 = nI (n / 4 ^ t % 4) := by decide +kernel
theorem sh64 : ∀ n, n < 64 → ((nI n).toInt64 &&& 63).toBitVec.smod 64 = BitVec.ofNat 64 n := by decide +kernel
theorem and1_64 (x : Int64) : (x &&& 1) = 1 ↔ x.toBitVec.getLsbD 0 = true := by
  have h1 : (x &&& 1).toBitVec = if x.toBitVec.getLsbD 0 then 1#64 else 0#64 := by
    apply BitVec.eq_of_getLsbD_eq
    intro i hi
    by_cases h0 : i = 0
    · subst h0
      rw [Int64.toBitVec_and, BitVec.getLsbD_and]
      cases hb : x.toBitVec.getLsbD 0
      · simp
      · rfl
    · have : (1#64).getLsbD i = false := by
        rw [BitVec.getLsbD_one]; simp [h0]
      cases hb : x.toBitVec.getLsbD 0 <;> simp [h0]
  constructor
  · intro h
    cases hb : x.toBitVec.getLsbD 0
    · rw [hb] at h1
      rw [h] at h1
      exact absurd h1 (by decide)
    · rfl
  · intro h
    rw [h] at h1
    exact Int64.toBitVec_inj.mp h1
theorem at_lem (x : Int64) {n : Nat} (hn : n < 64) : ((x >>> ((nI n).toInt64 &&& 63)) &&& 1) = 1 ↔ tb x n = true := by
  rw [and1_64]
  have e : (x >>> ((nI n).toInt64 &&& 63)).toBitVec = x.toBitVec.sshiftRight n := by
    rw [Int64.toBitVec_shiftRight, sh64 n hn]
    simp [BitVec.toNat_ofNat, Nat.mod_eq_of_lt (show n < 2 ^ 64 by omega)]
  rw [e]
  unfold tb
  rw [BitVec.getLsbD_sshiftRight]
  simp [hn]
theorem cmp_lem (x y : Int64) : lg_cmp x y = 0 ↔ x = y := by
  unfold lg_cmp
  by_cases h1 : x > y
  · rw [if_pos h1]
    constructor
    · intro h; exact absurd h (by decide)
    · intro h; subst h; exact absurd h1 (Int64.lt_irrefl)
  · rw [if_neg h1]
    by_cases h2 : x = y
    · simp [h2]
    · rw [if_neg h2]
      constructor
      · intro h; exact absurd h (by decide)
      · intro h; exact absurd h h2
theorem eI_toInt {n : Nat} (h : n < 2 ^ 31) : (nI n - 1).toInt = (n : Int) - 1 := by
  cases n with
  | zero => decide
  | succ k => rw [nI_pred, nI_toInt (by omega)]; omega
section MME
variable {p : Program} {l : Launch} {e : Env} {R : Room} {s : State} {m : MethodId} {args : Array Value} {below : List Frame} {meth : Method} {c : Code} {H : Heap} {locs : List Loc} {cells slots : Nat} {Q : State → Prop}
variable {cc : ByteArray} {pc : Nat} {ls : Array Slot} {rest : List Value} {G : mm_G} {ws : va_W} {a : Nat} {A : Nat → Prop}
theorem mm_iastE (hK : KG G s) (hx : p.tables.exec = Jvm.exec) (hb : c.code = cc) (hP : va_P G.1 cls_all ws H) (hD : va_D A ws) (hS : va_S A s.heap H locs) (q0 : Nat) {n i x : Nat} {f : Nat → Nat} (ha : ws[q0]? = some (a, .inl (G.2.1 0, n, .inl (eA f)))) (hn : n < 2 ^ 31) (hi : i < n) (hdg : decode cc pc = .ok (.iastore, 1)) (kk : ∀ (H1 : Heap) (locs1 : List Loc), va_P G.1 cls_all (ws.set q0 (a, .inl (G.2.1 0, n, .inl (eA (va_up f i x))))) H1 → va_D A (ws.set q0 (a, .inl (G.2.1 0, n, .inl (eA (va_up f i x))))) → va_S A s.heap H1 locs1 → W p l e R s m args below meth c H1 locs1 cells slots Q (F0 m (pc + 1) ls rest)) : W p l e R s m args below meth c H locs cells slots Q (F0 m pc ls (.int (nI x - 1) :: .int (nI i) :: .ref a :: rest)) :=
  va_iast hx hb hK.2.1 hP hD hS q0 0 ha rfl (vp_in_nI hi hn) hdg (by rw [nI_clamp (by omega), eA_up]; exact kk)
end MME
