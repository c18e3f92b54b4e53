/-! small rows: constants, branches on numbers, loops -/
theorem ci_m1 : Int32.ofInt (-1) = -1 := by decide
theorem ci_0 : Int32.ofInt 0 = nI 0 := by decide
theorem ci_1 : Int32.ofInt 1 = nI 1 := by decide
theorem ci_2 : Int32.ofInt 2 = nI 2 := by decide
theorem ci_3 : Int32.ofInt 3 = nI 3 := by decide
theorem ci_4 : Int32.ofInt 4 = nI 4 := by decide
theorem ci_5 : Int32.ofInt 5 = nI 5 := by decide
theorem inc1 (a : Nat) : nI a + Int32.ofInt 1 = nI (a + 1) := nI_1 a
theorem dec1 (a : Nat) : nI (a + 1) + Int32.ofInt (-1) = nI a := pk_m1 a
theorem m1_toInt : (-1 : Int32).toInt = -1 := by decide
theorem i32_eqT {x y : Int32} : x = y ↔ x.toInt = y.toInt := Int32.toInt_inj.symm
theorem nb_ltt {a b : Nat} (ha : a < 2 ^ 31) (hb : b < 2 ^ 31) (h : nI a < nI b) : a < b := (nI_ltI ha hb).mp h
theorem nb_ltf {a b : Nat} (ha : a < 2 ^ 31) (hb : b < 2 ^ 31) (h : ¬ nI a < nI b) : a ≥ b := Nat.not_lt.mp fun q => h ((nI_ltI ha hb).mpr q)
theorem nb_get {a b : Nat} (ha : a < 2 ^ 31) (hb : b < 2 ^ 31) (h : nI b ≤ nI a) : a ≥ b := (nI_leI hb ha).mp h
theorem nb_gef {a b : Nat} (ha : a < 2 ^ 31) (hb : b < 2 ^ 31) (h : ¬ nI b ≤ nI a) : a < b := Nat.not_le.mp fun q => h ((nI_leI hb ha).mpr q)
theorem nb_gtt {a b : Nat} (ha : a < 2 ^ 31) (hb : b < 2 ^ 31) (h : nI b < nI a) : a > b := (nI_ltI hb ha).mp h
theorem nb_gtf {a b : Nat} (ha : a < 2 ^ 31) (hb : b < 2 ^ 31) (h : ¬ nI b < nI a) : a ≤ b := Nat.not_lt.mp fun q => h ((nI_ltI hb ha).mpr q)
theorem nb_let {a b : Nat} (ha : a < 2 ^ 31) (hb : b < 2 ^ 31) (h : nI a ≤ nI b) : a ≤ b := (nI_leI ha hb).mp h
theorem nb_lef {a b : Nat} (ha : a < 2 ^ 31) (hb : b < 2 ^ 31) (h : ¬ nI a ≤ nI b) : a > b := Nat.not_le.mp fun q => h ((nI_leI ha hb).mpr q)
theorem nb_eqt {a b : Nat} (ha : a < 2 ^ 31) (hb : b < 2 ^ 31) (h : nI a = nI b) : a = b := (nI_eq ha hb).mp h
theorem nb_eqf {a b : Nat} (ha : a < 2 ^ 31) (hb : b < 2 ^ 31) (h : ¬ nI a = nI b) : a ≠ b := fun q => h (by rw [q])
theorem nb_net {a b : Nat} (ha : a < 2 ^ 31) (hb : b < 2 ^ 31) (h : ¬ nI a = nI b) : a ≠ b := nb_eqf ha hb h
theorem nb_nef {a b : Nat} (ha : a < 2 ^ 31) (hb : b < 2 ^ 31) (h : nI a = nI b) : a = b := nb_eqt ha hb h
theorem nb_zltt {a : Nat} (ha : a < 2 ^ 31) (h : nI a < 0) : a < 0 := absurd h (nI_pos ha)
theorem nb_zltf {a : Nat} (ha : a < 2 ^ 31) (h : ¬ nI a < 0) : a ≥ 0 := Nat.zero_le _
theorem nb_zget {a : Nat} (ha : a < 2 ^ 31) (h : 0 ≤ nI a) : a ≥ 0 := Nat.zero_le _
theorem nb_zgef {a : Nat} (ha : a < 2 ^ 31) (h : ¬ 0 ≤ nI a) : a < 0 := absurd (nI_pos' ha) h
theorem nb_zgtt {a : Nat} (ha : a < 2 ^ 31) (h : 0 < nI a) : a > 0 := nb_ltt (a := 0) (by decide) ha h
theorem nb_zgtf {a : Nat} (ha : a < 2 ^ 31) (h : ¬ 0 < nI a) : a ≤ 0 := nb_ltf (a := 0) (by decide) ha h
theorem nb_zlet {a : Nat} (ha : a < 2 ^ 31) (h : nI a ≤ 0) : a ≤ 0 := nb_let (b := 0) ha (by decide) h
theorem nb_zlef {a : Nat} (ha : a < 2 ^ 31) (h : ¬ nI a ≤ 0) : a > 0 := nb_lef (b := 0) ha (by decide) h
theorem nb_zeqt {a : Nat} (ha : a < 2 ^ 31) (h : nI a = 0) : a = 0 := nb_eqt (b := 0) ha (by decide) h
theorem nb_zeqf {a : Nat} (ha : a < 2 ^ 31) (h : ¬ nI a = 0) : a ≠ 0 := nb_eqf (b := 0) ha (by decide) h
theorem nb_znet {a : Nat} (ha : a < 2 ^ 31) (h : ¬ nI a = 0) : a ≠ 0 := nb_zeqf ha h
theorem nb_znef {a : Nat} (ha : a < 2 ^ 31) (h : nI a = 0) : a = 0 := nb_zeqt ha h
theorem bI_t {P : Prop} {d : Decidable P} (h : P) : bI true = bI (@decide P d) := by rw [decide_eq_true h]
theorem bI_f {P : Prop} {d : Decidable P} (h : ¬ P) : bI false = bI (@decide P d) := by rw [decide_eq_false h]
section MML
variable {p : Program} {l : Launch} {e : Env} {R : Room} {s : State} {m : MethodId} {args : Array Value} {below : List Frame} {meth : Method} {c : Code} {cells slots : Nat} {Q : State → Prop} {pc : Nat} {st : List Value}
theorem mm_loop {σ : Type} (I : σ → Array Slot → Heap → List Loc → Prop) (μ : σ → Nat)
    (step : ∀ (x : σ) (ls : Array Slot) (H : Heap) (locs : List Loc), I x ls H locs → (∀ (x' : σ) (ls' : Array Slot) (H' : Heap) (locs' : List Loc), I x' ls' H' locs' → μ x' < μ x → W p l e R s m args below meth c H' locs' cells slots Q (F0 m pc ls' st)) → W p l e R s m args below meth c H locs cells slots Q (F0 m pc ls st)) :
    ∀ (x : σ) (ls : Array Slot) (H : Heap) (locs : List Loc), I x ls H locs → W p l e R s m args below meth c H locs cells slots Q (F0 m pc ls st) := by
  have key : ∀ (n : Nat) (x : σ), μ x < n → ∀ (ls : Array Slot) (H : Heap) (locs : List Loc), I x ls H locs → W p l e R s m args below meth c H locs cells slots Q (F0 m pc ls st) := by
    intro n
    induction n with
    | zero => intro x h; exact absurd h (Nat.not_lt_zero _)
    | succ n ih => intro x h ls H locs hI; exact step x ls H locs hI (fun x' ls' H' locs' hI' hm => ih x' (by omega) ls' H' locs' hI')
  exact fun x ls H locs hI => key (μ x + 1) x (Nat.lt_succ_self _) ls H locs hI
theorem mm_loopR {H : Heap} {locs : List Loc} {σ : Type} (I : σ → Array Slot → Prop) (μ : σ → Nat)
    (step : ∀ (x : σ) (ls : Array Slot), I x ls → (∀ (x' : σ) (ls' : Array Slot), I x' ls' → μ x' < μ x → W p l e R s m args below meth c H locs cells slots Q (F0 m pc ls' st)) → W p l e R s m args below meth c H locs cells slots Q (F0 m pc ls st)) :
    ∀ (x : σ) (ls : Array Slot), I x ls → W p l e R s m args below meth c H locs cells slots Q (F0 m pc ls st) := by
  have key : ∀ (n : Nat) (x : σ), μ x < n → ∀ (ls : Array Slot), I x ls → W p l e R s m args below meth c H locs cells slots Q (F0 m pc ls st) := by
    intro n
    induction n with
    | zero => intro x h; exact absurd h (Nat.not_lt_zero _)
    | succ n ih => intro x h ls hI; exact step x ls hI (fun x' ls' hI' hm => ih x' (by omega) ls' hI')
  exact fun x ls hI => key (μ x + 1) x (Nat.lt_succ_self _) ls hI
end MML
