/-! void methods that leave the heap alone; assignments under which a term is a value -/
section MMV
variable {p : Program} {l : Launch} {e : Env} {R : Room} {s : State} {m : MethodId} {args : Array Value} {below : List Frame} {meth : Method} {c : Code} {H : Heap} {locs : List Loc} {cells slots : Nat} {Q : State → Prop}
variable {cc : ByteArray} {pc : Nat} {ls : Array Slot} {rest st : List Value}
theorem mm_sv {post : Unit → Prop} {a : Array Value} (hr : va_Run p l e R s m args below meth c H locs cells slots 0 0 (F0 m pc ls st) rest (va_Sv post a) (fun _ => False)) (kk : post () → W p l e R s m args below meth c H locs cells slots Q (F0 m (pc + 3) ls rest)) : W p l e R s m args below meth c H locs cells slots Q (F0 m pc ls st) := va_csv hr.run kk
theorem mm_vrS {post : Unit → Prop} {free : Addr → Prop} (hx : p.tables.exec = Jvm.exec) (hb : c.code = cc) (hr : meth.sig.returnType = none) (hk : meth.locks = false) (hdg : decode cc pc = .ok (.return_, 1)) (hp : post ()) : W p l e R s m args below meth c s.heap [] cells slots (MQ below (va_Sv post) args s cells slots free) (F0 m pc ls []) :=
  W.vret hx hb hr (fun t ht _ => ⟨rfl, hp, ht⟩) (fun q h => by cases h) hdg hk
end MMV
def whL (t v : Nat) : Int64 := if 3 < t then (if t - 4 = v then -1 else 0) else zeF t <<< ((nI v <<< (nI (2 * t) &&& 31)).toInt64 &&& 63)
theorem tb_whL : ∀ t, t < 8 → t ≠ 3 → ∀ v, v < 4 → ∀ n, n < 64 → tb (whL t v) n = decide (vlN t n = v) := by decide +kernel
def anF (w : Nat) : Int32 := nI 1 <<< (nI (2 * w) &&& 31)
/-- Exists.any -/
def anS (w : Nat) (x : Int64) : Int64 := (x ||| (x.toUInt64 >>> ((anF w).toInt64.toUInt64 &&& Int64.toUInt64 63)).toInt64 ||| (x.toUInt64 >>> ((nI 2 * anF w).toInt64.toUInt64 &&& Int64.toUInt64 63)).toInt64 ||| (x.toUInt64 >>> ((nI 3 * anF w).toInt64.toUInt64 &&& Int64.toUInt64 63)).toInt64) &&& zeF w
def anV (w : Nat) (x : Int64) : Int64 := anS w x ||| anS w x <<< ((anF w).toInt64 &&& 63) ||| anS w x <<< ((nI 2 * anF w).toInt64 &&& 63) ||| anS w x <<< ((nI 3 * anF w).toInt64 &&& 63)
theorem mn_lem {a b : Nat} (ha : a < 2 ^ 31) (hb : b < 2 ^ 31) : (if nI b < nI a then nI b else nI a) = nI (min a b) := by
  by_cases h : b < a
  · rw [if_pos ((nI_ltI hb ha).mpr h), show min a b = b by omega]
  · rw [if_neg (fun q => h ((nI_ltI hb ha).mp q)), show min a b = a by omega]
theorem mx_lem {a b : Nat} (ha : a < 2 ^ 31) (hb : b < 2 ^ 31) : (if nI a < nI b then nI b else nI a) = nI (max a b) := by
  by_cases h : a < b
  · rw [if_pos ((nI_ltI ha hb).mpr h), show max a b = b by omega]
  · rw [if_neg (fun q => h ((nI_ltI ha hb).mp q)), show max a b = a by omega]
