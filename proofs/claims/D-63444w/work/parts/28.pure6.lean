/-! the node's steps: a list of sets grown from a to b; since and until at the level of sets -/
def exT (se F : Nat → Int64) (a b : Nat) : Nat → Int64 := fun j => if a ≤ j ∧ j < b then F j else se j
theorem exT_0 {se F : Nat → Int64} {a : Nat} : exT se F a a = se := by
  funext j; unfold exT; rw [if_neg (by omega)]
theorem exT_s {se F : Nat → Int64} {a k : Nat} (h : a ≤ k) : va_up (exT se F a k) k (F k) = exT se F a (k + 1) := by
  funext j; unfold va_up exT
  by_cases e : j = k
  · subst e; rw [if_pos rfl, if_pos (by omega)]
  · rw [if_neg e]
    by_cases e2 : a ≤ j ∧ j < k
    · rw [if_pos e2, if_pos (by omega)]
    · rw [if_neg e2, if_neg (by omega)]
theorem exT_in {se F : Nat → Int64} {a b j : Nat} (h1 : a ≤ j) (h2 : j < b) : exT se F a b j = F j := if_pos ⟨h1, h2⟩
theorem exT_out {se F : Nat → Int64} {a b j : Nat} (h : ¬ (a ≤ j ∧ j < b)) : exT se F a b j = se j := if_neg h
def pvF (lse : Nat → Int64) (tm : Nat → Nat) (lw e0 j : Nat) : Int64 := if (decide (0 < j) && liB lw e0 (tm j - tm (j - 1))) = true then lse (j - 1) else 0
def joF (an : Bool) (lse rse : Nat → Int64) (j : Nat) : Int64 := if an = true then lse j &&& rse j else lse j ||| rse j
/-- g at j, and f at the d places behind it -/
def hvD (lse rse : Nat → Int64) (j : Nat) : Nat → Int64
  | 0 => rse j
  | d + 1 => hvD lse rse j d &&& lse (j + d + 1)
def siT (lse rse : Nat → Int64) (tm : Nat → Nat) (lw e0 k : Nat) : Nat → Int64
  | 0 => 0
  | q + 1 => siT lse rse tm lw e0 k q ||| (if liB lw e0 (tm k - tm q) = true then hvD lse rse q (k - q) else 0)
theorem i64_or0 (x : Int64) : x ||| 0 = x := by
  apply tb_ext; intro n _; rw [tb_or, tb_0]; simp
theorem i64_0or (x : Int64) : 0 ||| x = x := by
  apply tb_ext; intro n _; rw [tb_or, tb_0]; simp
theorem tb_and (x y : Int64) (n : Nat) : tb (x &&& y) n = (tb x n && tb y n) := by
  unfold tb; rw [Int64.toBitVec_and, BitVec.getLsbD_and]
theorem tb_m1 : ∀ n, n < 64 → tb (-1) n = true := by decide +kernel
theorem i64_andm1 (x : Int64) : x &&& (-1) = x := by
  apply tb_ext; intro n hn; rw [tb_and, tb_m1 n hn]; simp
theorem siT_drop {lse rse : Nat → Int64} {tm : Nat → Nat} {lw e0 k : Nat} : ∀ hd, (∀ j, j < hd → e0 ≠ 0 ∧ tm j + e0 ≤ tm k) → siT lse rse tm lw e0 k hd = 0 := by
  intro hd
  induction hd with
  | zero => intro _; rfl
  | succ q ih =>
    intro h
    have h1 := h q (by omega)
    rw [siT, ih (fun j hj => h j (by omega)), if_neg, i64_or0]
    unfold liB
    rw [decide_eq_false (by omega)]; decide
/-- since: what the node holds when k places are done -/
def SI (lse rse : Nat → Int64) (tm : Nat → Nat) (e0 k hd : Nat) (he : Nat → Int64) : Prop := hd ≤ k ∧ (∀ j, hd ≤ j → j < k → he j = hvD lse rse j (k - 1 - j)) ∧ ∀ j, j < hd → 0 < k ∧ e0 ≠ 0 ∧ tm j + e0 ≤ tm (k - 1)
/-- since, within place k: the places before j are done -/
def SJ (lse rse : Nat → Int64) (k hd j : Nat) (he : Nat → Int64) : Prop := (∀ q, hd ≤ q → q < j → he q = hvD lse rse q (k - q)) ∧ (∀ q, hd ≤ q → j ≤ q → q < k → he q = hvD lse rse q (k - 1 - q)) ∧ (j ≤ k → he k = rse k)
theorem SJ_0 {lse rse : Nat → Int64} {tm : Nat → Nat} {e0 k hd hd2 : Nat} {he : Nat → Int64} (h : SI lse rse tm e0 k hd he) (h2 : hd ≤ hd2) : SJ lse rse k hd2 hd2 (va_up he k (rse k)) := by
  refine ⟨fun q h1 h2 => by omega, fun q h1 h3 h4 => ?_, fun _ => va_up_self _ _ _⟩
  rw [va_up_ne _ _ (by omega)]
  exact h.2.1 q (by omega) h4
theorem SJ_a {lse rse : Nat → Int64} {k hd j : Nat} {he : Nat → Int64} (h : SJ lse rse k hd j he) (hj : hd ≤ j) (hk : j < k) : SJ lse rse k hd (j + 1) (va_up he j (he j &&& lse k)) ∧ va_up he j (he j &&& lse k) j = hvD lse rse j (k - j) := by
  have e : he j &&& lse k = hvD lse rse j (k - j) := by
    rw [h.2.1 j hj (Nat.le_refl _) hk, show k - j = (k - 1 - j) + 1 by omega, hvD, show j + (k - 1 - j) + 1 = k by omega]
  refine ⟨⟨fun q h1 h2 => ?_, fun q h1 h2 h3 => ?_, fun h1 => ?_⟩, by rw [va_up_self]; exact e⟩
  · by_cases e1 : q = j
    · rw [e1, va_up_self]; exact e
    · rw [va_up_ne _ _ e1]; exact h.1 q h1 (by omega)
  · rw [va_up_ne _ _ (by omega)]; exact h.2.1 q h1 (by omega) h3
  · rw [va_up_ne _ _ (by omega)]; exact h.2.2 (by omega)
theorem SJ_b {lse rse : Nat → Int64} {k hd : Nat} {he : Nat → Int64} (h : SJ lse rse k hd k he) : SJ lse rse k hd (k + 1) (va_up he k (he k &&& (-1))) ∧ va_up he k (he k &&& (-1)) k = hvD lse rse k (k - k) := by
  have e : he k &&& (-1) = hvD lse rse k (k - k) := by rw [i64_andm1, h.2.2 (Nat.le_refl _), Nat.sub_self]; rfl
  refine ⟨⟨fun q h1 h2 => ?_, fun q h1 h2 h3 => by omega, fun h1 => by omega⟩, by rw [va_up_self]; exact e⟩
  by_cases e1 : q = k
  · rw [e1, va_up_self]; exact e
  · rw [va_up_ne _ _ e1]; exact h.1 q h1 (by omega)
theorem SJ_e {lse rse : Nat → Int64} {tm : Nat → Nat} {e0 k hd : Nat} {he : Nat → Int64} (h : SJ lse rse k hd (k + 1) he) (hd1 : hd ≤ k) (h2 : ∀ j, j < hd → e0 ≠ 0 ∧ tm j + e0 ≤ tm k) : SI lse rse tm e0 (k + 1) hd he :=
  ⟨by omega, fun j h1 h3 => by rw [h.1 j h1 h3, show k + 1 - 1 - j = k - j by omega], fun j hj => ⟨by omega, h2 j hj⟩⟩
/-- until: f at the d places from i on; what was found over them -/
def alD (lse : Nat → Int64) (i : Nat) : Nat → Int64
  | 0 => -1
  | d + 1 => alD lse i d &&& lse (i + d)
def utD (lse rse : Nat → Int64) (tm : Nat → Nat) (lw e0 i : Nat) : Nat → Int64
  | 0 => 0
  | d + 1 => if liB lw e0 (tm (i + d) - tm i) = true then utD lse rse tm lw e0 i d ||| (alD lse i d &&& rse (i + d)) else utD lse rse tm lw e0 i d
def UI (lse rse : Nat → Int64) (tm : Nat → Nat) (lw e0 re sn : Nat) (se al : Nat → Int64) : Prop := ∀ i, re ≤ i → i < sn → al i = alD lse i (sn - i) ∧ se i = utD lse rse tm lw e0 i (sn - i)
/-- until, within place s: the places before i are done -/
def UJ (lse rse : Nat → Int64) (tm : Nat → Nat) (lw e0 re s i : Nat) (se0 se al : Nat → Int64) : Prop := (∀ q, q < re → se q = se0 q) ∧ (∀ q, re ≤ q → q < i → al q = alD lse q (s + 1 - q) ∧ se q = utD lse rse tm lw e0 q (s + 1 - q)) ∧ ∀ q, re ≤ q → i ≤ q → q ≤ s → al q = alD lse q (s - q) ∧ se q = utD lse rse tm lw e0 q (s - q)
theorem UJ_0 {lse rse : Nat → Int64} {tm : Nat → Nat} {lw e0 re s : Nat} {se al : Nat → Int64} (h : UI lse rse tm lw e0 re s se al) (hr : re ≤ s) : UJ lse rse tm lw e0 re s re se (va_up se s 0) (va_up al s (-1)) := by
  refine ⟨fun q hq => va_up_ne _ _ (by omega), fun q h1 h2 => by omega, fun q h1 _ h3 => ?_⟩
  by_cases e : q = s
  · subst e; rw [va_up_self, va_up_self, Nat.sub_self]; exact ⟨rfl, rfl⟩
  · rw [va_up_ne _ _ e, va_up_ne _ _ e]; exact h q h1 (by omega)
theorem UJ_a {lse rse : Nat → Int64} {tm : Nat → Nat} {lw e0 re s i : Nat} {se0 se al : Nat → Int64} (h : UJ lse rse tm lw e0 re s i se0 se al) (hr : re ≤ i) (hi : i ≤ s) (hl : liB lw e0 (tm s - tm i) = true) : UJ lse rse tm lw e0 re s (i + 1) se0 (va_up se i (se i ||| (al i &&& rse s))) (va_up al i (al i &&& lse s)) := by
  obtain ⟨h1, h2, h3⟩ := h
  have h4 := h3 i hr (Nat.le_refl _) hi
  refine ⟨fun q hq => by rw [va_up_ne _ _ (by omega)]; exact h1 q hq, fun q ha hb => ?_, fun q ha hb hc => by rw [va_up_ne _ _ (by omega), va_up_ne _ _ (by omega)]; exact h3 q ha (by omega) hc⟩
  by_cases e : q = i
  · subst e
    rw [va_up_self, va_up_self, h4.1, h4.2, show s + 1 - q = (s - q) + 1 by omega, alD, utD, show q + (s - q) = s by omega, if_pos hl]
    exact ⟨rfl, rfl⟩
  · rw [va_up_ne _ _ e, va_up_ne _ _ e]; exact h2 q ha (by omega)
theorem UJ_b {lse rse : Nat → Int64} {tm : Nat → Nat} {lw e0 re s i : Nat} {se0 se al : Nat → Int64} (h : UJ lse rse tm lw e0 re s i se0 se al) (hr : re ≤ i) (hi : i ≤ s) (hl : liB lw e0 (tm s - tm i) = false) : UJ lse rse tm lw e0 re s (i + 1) se0 se (va_up al i (al i &&& lse s)) := by
  obtain ⟨h1, h2, h3⟩ := h
  have h4 := h3 i hr (Nat.le_refl _) hi
  refine ⟨h1, fun q ha hb => ?_, fun q ha hb hc => by rw [va_up_ne _ _ (by omega)]; exact h3 q ha (by omega) hc⟩
  by_cases e : q = i
  · subst e
    rw [va_up_self, h4.1, h4.2, show s + 1 - q = (s - q) + 1 by omega, alD, utD, show q + (s - q) = s by omega, if_neg (by rw [hl]; decide)]
    exact ⟨rfl, rfl⟩
  · rw [va_up_ne _ _ e]; exact h2 q ha (by omega)
theorem UJ_e {lse rse : Nat → Int64} {tm : Nat → Nat} {lw e0 re s : Nat} {se0 se al : Nat → Int64} (h : UJ lse rse tm lw e0 re s (s + 1) se0 se al) : (∀ q, q < re → se q = se0 q) ∧ UI lse rse tm lw e0 re (s + 1) se al := ⟨h.1, h.2.1⟩
