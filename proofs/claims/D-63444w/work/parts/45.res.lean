/-! a node's reset over the pool; what changes in one node leaves the others -/
theorem ndE_o {q ad : Nat → Nat → Nat} {CL : Nat → Bool} {k r h j : Nat} (hj : j ≠ k) : ndE (setq q k r h) ad CL j = ndE q ad CL j := by
  unfold ndE lfR rtR exL
  simp only [setq_o hj]
theorem FC_o {G : mm_G} {q ad : Nat → Nat → Nat} {CL : Nat → Bool} {ss : Nat → Nat → Nat → Int64} {L : List Nat} {f f1 : Nat → va_E} {rh : Nat → Nat × Nat} {xs : Nat → Nat} {n k j r h : Nat} {s x : Nat → Int64} (hF : FC G q ad CL ss L f j) (hRho : RHO rh q ad xs n) (hj : j < n) (hk : k < n) (hjk : j ≠ k) (hKP : KP L f L f1 (fun a => a = ad 0 k ∨ a = ad 1 k ∨ (8 ≤ q 0 k ∧ a = ad 2 k))) : FC G (setq q k r h) ad CL (sets ss k s x) L f1 j := by
  obtain ⟨h0, h1, h2, h3⟩ := hF
  obtain ⟨r0, r1, r2, r3⟩ := hRho.2 j hj
  obtain ⟨t0, t1, t2, t3⟩ := hRho.2 k hk
  have no : ∀ a i, rh a = (j, i) → ¬ (a = ad 0 k ∨ a = ad 1 k ∨ (8 ≤ q 0 k ∧ a = ad 2 k)) := by
    intro a i ha h
    rcases h with h | h | ⟨h8, h⟩
    · rw [h, t0] at ha; exact hjk (Prod.mk.inj ha).1.symm
    · rw [h, t1] at ha; exact hjk (Prod.mk.inj ha).1.symm
    · rw [h, t2 h8] at ha; exact hjk (Prod.mk.inj ha).1.symm
  refine ⟨?_, ?_, fun h7 => ?_, fun h8 => ?_⟩
  · rw [ndE_o hjk]; exact hKP _ _ h0 (no _ _ r0)
  · rw [sets_o hjk]; exact hKP _ _ h1 (no _ _ r1)
  · rw [setq_o hjk] at h7
    rw [setq_o hjk, setq_o hjk]; exact hKP _ _ (h2 h7) (no _ _ (r3 h7))
  · rw [setq_o hjk] at h8
    rw [sets_o hjk]; exact hKP _ _ (h3 h8) (no _ _ (r2 h8))
theorem RHO_set {q ad : Nat → Nat → Nat} {rh : Nat → Nat × Nat} {xs : Nat → Nat} {n k r h : Nat} (hR : RHO rh q ad xs n) : RHO rh (setq q k r h) ad xs n := by
  refine ⟨hR.1, fun j hj => ?_⟩
  rw [setq_c (by decide) (by decide)]
  exact hR.2 j hj
section ADV
variable {p : Program} {l : Launch} {e : Env} {R : Room} {s : State} {m : MethodId} {args : Array Value} {below : List Frame} {meth : Method} {c : Code} {H : Heap} {locs : List Loc} {cells slots : Nat} {Q : State → Prop}
variable {ls : Array Slot} {G : mm_G} {A : Nat → Prop} {Z : Nat × Nat} {L : List Nat} {f : Nat → va_E} {xs : Nat → Nat} {n np : Nat} {tm pv : Nat → Nat} {q ad : Nat → Nat → Nat} {CL : Nat → Bool} {ss : Nat → Nat → Nat → Int64} {rh : Nat → Nat × Nat} {ph : Nat → Nat → Nat} {k : Nat}
theorem W_res0 (hK : KG G s) (hx : p.tables.exec = Jvm.exec) (hb : c.code = b_Mon_begin) (hml : c.maxLocals = 2) (hown : s.vm.findClass "MetricLogMonitor" = some m.cls) (hls : ls.size = 2) (hRf : 3 ≤ R.frames) (hRl : 70 ≤ R.locals) (hRc : cells ≤ R.cells) (hRs : slots ≤ R.slots) (hP : va_P G.1 cls_all (va_pl L f) H) (hL : PD A L) (hS : va_S A s.heap H locs) (hA : ∀ q, s.heap.size ≤ q → A q) (f0 : PLc L f (ad 0 k) (ndE q ad CL k)) (hk0 : q 0 k = 0) (kk : ∀ (f1 : Nat → va_E) (H1 : Heap) (locs1 : List Loc), va_P G.1 cls_all (va_pl L f1) H1 → va_S A s.heap H1 locs1 → KP L f L f1 (fun a => a = ad 0 k ∨ a = ad 1 k ∨ (8 ≤ q 0 k ∧ a = ad 2 k)) → PLc L f1 (ad 0 k) (ndE (setq q k 0 0) ad CL k) → (∀ a e, PLc L f a e → a ≠ ad 0 k → PLc L f1 a e) → W p l e R s m args below meth c H1 locs1 cells slots Q (F0 m 34 ls [])) :
    W p l e R s m args below meth c H locs cells slots Q (F0 m 31 ls [.ref (ad 0 k)]) := by
  rw [nd_0 hk0] at f0
  have f0 : PLc L f (ad 0 k) (.inr (0, [.null, .null, .int (nI (q 6 k)), .int (nI (q 7 k)), .int (bI (CL k)), .ref (ad 1 k), .int (nI (q 8 k))] ++ [.int (nI (q 1 k)), .int (nI (q 2 k)), .int (nI (q 3 k))])) := f0
  have hPc := pl_1 hP f0
  have hFc := wF (w := [(ad 0 k, (.inr (0, [.null, .null, .int (nI (q 6 k)), .int (nI (q 7 k)), .int (bI (CL k)), .ref (ad 1 k), .int (nI (q 8 k))] ++ [.int (nI (q 1 k)), .int (nI (q 2 k)), .int (nI (q 3 k))]) : va_E))]) hL hA hS.1 (fa_1 f0.1)
  refine mm_qv (mm_runU hK ⟨hx, hb, hml, hown⟩ lk_Mon_123_Atom (c_Formula_reset l G (ad 0 k) 0 (by decide) [.int (nI (q 1 k)), .int (nI (q 2 k)), .int (nI (q 3 k))] (.null) (.null) (.int (nI (q 6 k))) (.int (nI (q 7 k))) (.int (bI (CL k))) (.ref (ad 1 k)) (.int (nI (q 8 k))) (wD nd1)) ⟨rfl, rfl, Nat.le_trans (by decide) hRf, Nat.le_trans (by decide) hRl⟩ (mm_rc hK hPc 0 rfl rfl) hPc rfl hls rfl (Nat.le_of_ble_eq_true rfl) ⟨hRc, hRs⟩ d_Mon_begin_31) hS hFc (fun H1 locs1 e1 hz1 hk1 hS1 => ?_)
  obtain ⟨f9, u1, u2, u3⟩ := pl_upd hP hk1 e1 nd1 rfl
  refine kk f9 H1 locs1 u1 hS1 (fun a e h hB => u2 a e h (fa_1 (fun e => hB (Or.inl e.symm)))) ?_ (fun a e h hB => u2 a e h (fa_1 (fun e => hB e.symm)))
  rw [ns_0 hk0]; exact u3 _ (List.mem_singleton.mpr rfl) f0.1
theorem W_res1 (hK : KG G s) (hx : p.tables.exec = Jvm.exec) (hb : c.code = b_Mon_begin) (hml : c.maxLocals = 2) (hown : s.vm.findClass "MetricLogMonitor" = some m.cls) (hls : ls.size = 2) (hRf : 3 ≤ R.frames) (hRl : 70 ≤ R.locals) (hRc : cells ≤ R.cells) (hRs : slots ≤ R.slots) (hP : va_P G.1 cls_all (va_pl L f) H) (hL : PD A L) (hS : va_S A s.heap H locs) (hA : ∀ q, s.heap.size ≤ q → A q) (f0 : PLc L f (ad 0 k) (ndE q ad CL k)) (hk0 : q 0 k = 1 ∨ q 0 k = 2) (kk : ∀ (f1 : Nat → va_E) (H1 : Heap) (locs1 : List Loc), va_P G.1 cls_all (va_pl L f1) H1 → va_S A s.heap H1 locs1 → KP L f L f1 (fun a => a = ad 0 k ∨ a = ad 1 k ∨ (8 ≤ q 0 k ∧ a = ad 2 k)) → PLc L f1 (ad 0 k) (ndE (setq q k 0 0) ad CL k) → (∀ a e, PLc L f a e → a ≠ ad 0 k → PLc L f1 a e) → W p l e R s m args below meth c H1 locs1 cells slots Q (F0 m 34 ls [])) :
    W p l e R s m args below meth c H locs cells slots Q (F0 m 31 ls [.ref (ad 0 k)]) := by
  rw [nd_1 hk0] at f0
  have f0 : PLc L f (ad 0 k) (.inr (1, [.null, .null, .int (nI (q 6 k)), .int (nI (q 7 k)), .int (bI (CL k)), .ref (ad 1 k), .int (nI (q 8 k))] ++ [.long (cpS (decide (q 0 k = 2)) (q 2 k) (q 3 k) 16)])) := f0
  have hPc := pl_1 hP f0
  have hFc := wF (w := [(ad 0 k, (.inr (1, [.null, .null, .int (nI (q 6 k)), .int (nI (q 7 k)), .int (bI (CL k)), .ref (ad 1 k), .int (nI (q 8 k))] ++ [.long (cpS (decide (q 0 k = 2)) (q 2 k) (q 3 k) 16)]) : va_E))]) hL hA hS.1 (fa_1 f0.1)
  refine mm_qv (mm_runU hK ⟨hx, hb, hml, hown⟩ lk_Mon_123_Compare (c_Formula_reset l G (ad 0 k) 1 (by decide) [.long (cpS (decide (q 0 k = 2)) (q 2 k) (q 3 k) 16)] (.null) (.null) (.int (nI (q 6 k))) (.int (nI (q 7 k))) (.int (bI (CL k))) (.ref (ad 1 k)) (.int (nI (q 8 k))) (wD nd1)) ⟨rfl, rfl, Nat.le_trans (by decide) hRf, Nat.le_trans (by decide) hRl⟩ (mm_rc hK hPc 0 rfl rfl) hPc rfl hls rfl (Nat.le_of_ble_eq_true rfl) ⟨hRc, hRs⟩ d_Mon_begin_31) hS hFc (fun H1 locs1 e1 hz1 hk1 hS1 => ?_)
  obtain ⟨f9, u1, u2, u3⟩ := pl_upd hP hk1 e1 nd1 rfl
  refine kk f9 H1 locs1 u1 hS1 (fun a e h hB => u2 a e h (fa_1 (fun e => hB (Or.inl e.symm)))) ?_ (fun a e h hB => u2 a e h (fa_1 (fun e => hB e.symm)))
  rw [ns_1 hk0]; exact u3 _ (List.mem_singleton.mpr rfl) f0.1
theorem W_res3 (hK : KG G s) (hx : p.tables.exec = Jvm.exec) (hb : c.code = b_Mon_begin) (hml : c.maxLocals = 2) (hown : s.vm.findClass "MetricLogMonitor" = some m.cls) (hls : ls.size = 2) (hRf : 3 ≤ R.frames) (hRl : 70 ≤ R.locals) (hRc : cells ≤ R.cells) (hRs : slots ≤ R.slots) (hP : va_P G.1 cls_all (va_pl L f) H) (hL : PD A L) (hS : va_S A s.heap H locs) (hA : ∀ q, s.heap.size ≤ q → A q) (f0 : PLc L f (ad 0 k) (ndE q ad CL k)) (hk0 : q 0 k = 3) (kk : ∀ (f1 : Nat → va_E) (H1 : Heap) (locs1 : List Loc), va_P G.1 cls_all (va_pl L f1) H1 → va_S A s.heap H1 locs1 → KP L f L f1 (fun a => a = ad 0 k ∨ a = ad 1 k ∨ (8 ≤ q 0 k ∧ a = ad 2 k)) → PLc L f1 (ad 0 k) (ndE (setq q k 0 0) ad CL k) → (∀ a e, PLc L f a e → a ≠ ad 0 k → PLc L f1 a e) → W p l e R s m args below meth c H1 locs1 cells slots Q (F0 m 34 ls [])) :
    W p l e R s m args below meth c H locs cells slots Q (F0 m 31 ls [.ref (ad 0 k)]) := by
  rw [nd_3 hk0] at f0
  have f0 : PLc L f (ad 0 k) (.inr (2, [.ref (ad 0 (q 2 k)), .null, .int (nI (q 6 k)), .int (nI (q 7 k)), .int (bI (CL k)), .ref (ad 1 k), .int (nI (q 8 k))] ++ [])) := f0
  have hPc := pl_1 hP f0
  have hFc := wF (w := [(ad 0 k, (.inr (2, [.ref (ad 0 (q 2 k)), .null, .int (nI (q 6 k)), .int (nI (q 7 k)), .int (bI (CL k)), .ref (ad 1 k), .int (nI (q 8 k))] ++ []) : va_E))]) hL hA hS.1 (fa_1 f0.1)
  refine mm_qv (mm_runU hK ⟨hx, hb, hml, hown⟩ lk_Mon_123_Not (c_Formula_reset l G (ad 0 k) 2 (by decide) [] (.ref (ad 0 (q 2 k))) (.null) (.int (nI (q 6 k))) (.int (nI (q 7 k))) (.int (bI (CL k))) (.ref (ad 1 k)) (.int (nI (q 8 k))) (wD nd1)) ⟨rfl, rfl, Nat.le_trans (by decide) hRf, Nat.le_trans (by decide) hRl⟩ (mm_rc hK hPc 0 rfl rfl) hPc rfl hls rfl (Nat.le_of_ble_eq_true rfl) ⟨hRc, hRs⟩ d_Mon_begin_31) hS hFc (fun H1 locs1 e1 hz1 hk1 hS1 => ?_)
  obtain ⟨f9, u1, u2, u3⟩ := pl_upd hP hk1 e1 nd1 rfl
  refine kk f9 H1 locs1 u1 hS1 (fun a e h hB => u2 a e h (fa_1 (fun e => hB (Or.inl e.symm)))) ?_ (fun a e h hB => u2 a e h (fa_1 (fun e => hB e.symm)))
  rw [ns_3 hk0]; exact u3 _ (List.mem_singleton.mpr rfl) f0.1
theorem W_res4 (hK : KG G s) (hx : p.tables.exec = Jvm.exec) (hb : c.code = b_Mon_begin) (hml : c.maxLocals = 2) (hown : s.vm.findClass "MetricLogMonitor" = some m.cls) (hls : ls.size = 2) (hRf : 3 ≤ R.frames) (hRl : 70 ≤ R.locals) (hRc : cells ≤ R.cells) (hRs : slots ≤ R.slots) (hP : va_P G.1 cls_all (va_pl L f) H) (hL : PD A L) (hS : va_S A s.heap H locs) (hA : ∀ q, s.heap.size ≤ q → A q) (f0 : PLc L f (ad 0 k) (ndE q ad CL k)) (hk0 : q 0 k = 4 ∨ q 0 k = 5) (kk : ∀ (f1 : Nat → va_E) (H1 : Heap) (locs1 : List Loc), va_P G.1 cls_all (va_pl L f1) H1 → va_S A s.heap H1 locs1 → KP L f L f1 (fun a => a = ad 0 k ∨ a = ad 1 k ∨ (8 ≤ q 0 k ∧ a = ad 2 k)) → PLc L f1 (ad 0 k) (ndE (setq q k 0 0) ad CL k) → (∀ a e, PLc L f a e → a ≠ ad 0 k → PLc L f1 a e) → W p l e R s m args below meth c H1 locs1 cells slots Q (F0 m 34 ls [])) :
    W p l e R s m args below meth c H locs cells slots Q (F0 m 31 ls [.ref (ad 0 k)]) := by
  rw [nd_4 hk0] at f0
  have f0 : PLc L f (ad 0 k) (.inr (3, [.ref (ad 0 (q 2 k)), .ref (ad 0 (q 3 k)), .int (nI (q 6 k)), .int (nI (q 7 k)), .int (bI (CL k)), .ref (ad 1 k), .int (nI (q 8 k))] ++ [.int (bI (decide (q 0 k = 4)))])) := f0
  have hPc := pl_1 hP f0
  have hFc := wF (w := [(ad 0 k, (.inr (3, [.ref (ad 0 (q 2 k)), .ref (ad 0 (q 3 k)), .int (nI (q 6 k)), .int (nI (q 7 k)), .int (bI (CL k)), .ref (ad 1 k), .int (nI (q 8 k))] ++ [.int (bI (decide (q 0 k = 4)))]) : va_E))]) hL hA hS.1 (fa_1 f0.1)
  refine mm_qv (mm_runU hK ⟨hx, hb, hml, hown⟩ lk_Mon_123_Join (c_Formula_reset l G (ad 0 k) 3 (by decide) [.int (bI (decide (q 0 k = 4)))] (.ref (ad 0 (q 2 k))) (.ref (ad 0 (q 3 k))) (.int (nI (q 6 k))) (.int (nI (q 7 k))) (.int (bI (CL k))) (.ref (ad 1 k)) (.int (nI (q 8 k))) (wD nd1)) ⟨rfl, rfl, Nat.le_trans (by decide) hRf, Nat.le_trans (by decide) hRl⟩ (mm_rc hK hPc 0 rfl rfl) hPc rfl hls rfl (Nat.le_of_ble_eq_true rfl) ⟨hRc, hRs⟩ d_Mon_begin_31) hS hFc (fun H1 locs1 e1 hz1 hk1 hS1 => ?_)
  obtain ⟨f9, u1, u2, u3⟩ := pl_upd hP hk1 e1 nd1 rfl
  refine kk f9 H1 locs1 u1 hS1 (fun a e h hB => u2 a e h (fa_1 (fun e => hB (Or.inl e.symm)))) ?_ (fun a e h hB => u2 a e h (fa_1 (fun e => hB e.symm)))
  rw [ns_4 hk0]; exact u3 _ (List.mem_singleton.mpr rfl) f0.1
theorem W_res6 (hK : KG G s) (hx : p.tables.exec = Jvm.exec) (hb : c.code = b_Mon_begin) (hml : c.maxLocals = 2) (hown : s.vm.findClass "MetricLogMonitor" = some m.cls) (hls : ls.size = 2) (hRf : 3 ≤ R.frames) (hRl : 70 ≤ R.locals) (hRc : cells ≤ R.cells) (hRs : slots ≤ R.slots) (hP : va_P G.1 cls_all (va_pl L f) H) (hL : PD A L) (hS : va_S A s.heap H locs) (hA : ∀ q, s.heap.size ≤ q → A q) (f0 : PLc L f (ad 0 k) (ndE q ad CL k)) (hk0 : q 0 k = 6) (kk : ∀ (f1 : Nat → va_E) (H1 : Heap) (locs1 : List Loc), va_P G.1 cls_all (va_pl L f1) H1 → va_S A s.heap H1 locs1 → KP L f L f1 (fun a => a = ad 0 k ∨ a = ad 1 k ∨ (8 ≤ q 0 k ∧ a = ad 2 k)) → PLc L f1 (ad 0 k) (ndE (setq q k 0 0) ad CL k) → (∀ a e, PLc L f a e → a ≠ ad 0 k → PLc L f1 a e) → W p l e R s m args below meth c H1 locs1 cells slots Q (F0 m 34 ls [])) :
    W p l e R s m args below meth c H locs cells slots Q (F0 m 31 ls [.ref (ad 0 k)]) := by
  rw [nd_6 hk0] at f0
  have f0 : PLc L f (ad 0 k) (.inr (4, [.ref (ad 0 (q 2 k)), .null, .int (nI (q 6 k)), .int (nI (q 7 k)), .int (bI (CL k)), .ref (ad 1 k), .int (nI (q 8 k))] ++ [.int (nI (q 1 k))])) := f0
  have hPc := pl_1 hP f0
  have hFc := wF (w := [(ad 0 k, (.inr (4, [.ref (ad 0 (q 2 k)), .null, .int (nI (q 6 k)), .int (nI (q 7 k)), .int (bI (CL k)), .ref (ad 1 k), .int (nI (q 8 k))] ++ [.int (nI (q 1 k))]) : va_E))]) hL hA hS.1 (fa_1 f0.1)
  refine mm_qv (mm_runU hK ⟨hx, hb, hml, hown⟩ lk_Mon_123_Exists (c_Formula_reset l G (ad 0 k) 4 (by decide) [.int (nI (q 1 k))] (.ref (ad 0 (q 2 k))) (.null) (.int (nI (q 6 k))) (.int (nI (q 7 k))) (.int (bI (CL k))) (.ref (ad 1 k)) (.int (nI (q 8 k))) (wD nd1)) ⟨rfl, rfl, Nat.le_trans (by decide) hRf, Nat.le_trans (by decide) hRl⟩ (mm_rc hK hPc 0 rfl rfl) hPc rfl hls rfl (Nat.le_of_ble_eq_true rfl) ⟨hRc, hRs⟩ d_Mon_begin_31) hS hFc (fun H1 locs1 e1 hz1 hk1 hS1 => ?_)
  obtain ⟨f9, u1, u2, u3⟩ := pl_upd hP hk1 e1 nd1 rfl
  refine kk f9 H1 locs1 u1 hS1 (fun a e h hB => u2 a e h (fa_1 (fun e => hB (Or.inl e.symm)))) ?_ (fun a e h hB => u2 a e h (fa_1 (fun e => hB e.symm)))
  rw [ns_6 hk0]; exact u3 _ (List.mem_singleton.mpr rfl) f0.1
theorem W_res7 (hK : KG G s) (hx : p.tables.exec = Jvm.exec) (hb : c.code = b_Mon_begin) (hml : c.maxLocals = 2) (hown : s.vm.findClass "MetricLogMonitor" = some m.cls) (hls : ls.size = 2) (hRf : 3 ≤ R.frames) (hRl : 70 ≤ R.locals) (hRc : cells ≤ R.cells) (hRs : slots ≤ R.slots) (hP : va_P G.1 cls_all (va_pl L f) H) (hL : PD A L) (hS : va_S A s.heap H locs) (hA : ∀ q, s.heap.size ≤ q → A q) (f0 : PLc L f (ad 0 k) (ndE q ad CL k)) (hk0 : q 0 k = 7) (kk : ∀ (f1 : Nat → va_E) (H1 : Heap) (locs1 : List Loc), va_P G.1 cls_all (va_pl L f1) H1 → va_S A s.heap H1 locs1 → KP L f L f1 (fun a => a = ad 0 k ∨ a = ad 1 k ∨ (8 ≤ q 0 k ∧ a = ad 2 k)) → PLc L f1 (ad 0 k) (ndE (setq q k 0 0) ad CL k) → (∀ a e, PLc L f a e → a ≠ ad 0 k → PLc L f1 a e) → W p l e R s m args below meth c H1 locs1 cells slots Q (F0 m 34 ls [])) :
    W p l e R s m args below meth c H locs cells slots Q (F0 m 31 ls [.ref (ad 0 k)]) := by
  rw [nd_7 hk0] at f0
  have f0 : PLc L f (ad 0 k) (.inr (5, [.ref (ad 0 (q 2 k)), .null, .int (nI (q 6 k)), .int (nI (q 7 k)), .int (bI (CL k)), .ref (ad 1 k), .int (nI (q 8 k))] ++ [.ref (ad 3 k)])) := f0
  have hPc := pl_1 hP f0
  have hFc := wF (w := [(ad 0 k, (.inr (5, [.ref (ad 0 (q 2 k)), .null, .int (nI (q 6 k)), .int (nI (q 7 k)), .int (bI (CL k)), .ref (ad 1 k), .int (nI (q 8 k))] ++ [.ref (ad 3 k)]) : va_E))]) hL hA hS.1 (fa_1 f0.1)
  refine mm_qv (mm_runU hK ⟨hx, hb, hml, hown⟩ lk_Mon_123_Previous (c_Formula_reset l G (ad 0 k) 5 (by decide) [.ref (ad 3 k)] (.ref (ad 0 (q 2 k))) (.null) (.int (nI (q 6 k))) (.int (nI (q 7 k))) (.int (bI (CL k))) (.ref (ad 1 k)) (.int (nI (q 8 k))) (wD nd1)) ⟨rfl, rfl, Nat.le_trans (by decide) hRf, Nat.le_trans (by decide) hRl⟩ (mm_rc hK hPc 0 rfl rfl) hPc rfl hls rfl (Nat.le_of_ble_eq_true rfl) ⟨hRc, hRs⟩ d_Mon_begin_31) hS hFc (fun H1 locs1 e1 hz1 hk1 hS1 => ?_)
  obtain ⟨f9, u1, u2, u3⟩ := pl_upd hP hk1 e1 nd1 rfl
  refine kk f9 H1 locs1 u1 hS1 (fun a e h hB => u2 a e h (fa_1 (fun e => hB (Or.inl e.symm)))) ?_ (fun a e h hB => u2 a e h (fa_1 (fun e => hB e.symm)))
  rw [ns_7 hk0]; exact u3 _ (List.mem_singleton.mpr rfl) f0.1
theorem W_res8 (hK : KG G s) (hx : p.tables.exec = Jvm.exec) (hb : c.code = b_Mon_begin) (hml : c.maxLocals = 2) (hown : s.vm.findClass "MetricLogMonitor" = some m.cls) (hls : ls.size = 2) (hRf : 3 ≤ R.frames) (hRl : 70 ≤ R.locals) (hRc : cells ≤ R.cells) (hRs : slots ≤ R.slots) (hP : va_P G.1 cls_all (va_pl L f) H) (hL : PD A L) (hS : va_S A s.heap H locs) (hA : ∀ q, s.heap.size ≤ q → A q) (f0 : PLc L f (ad 0 k) (ndE q ad CL k)) (hk0 : q 0 k = 8) (kk : ∀ (f1 : Nat → va_E) (H1 : Heap) (locs1 : List Loc), va_P G.1 cls_all (va_pl L f1) H1 → va_S A s.heap H1 locs1 → KP L f L f1 (fun a => a = ad 0 k ∨ a = ad 1 k ∨ (8 ≤ q 0 k ∧ a = ad 2 k)) → PLc L f1 (ad 0 k) (ndE (setq q k 0 0) ad CL k) → (∀ a e, PLc L f a e → a ≠ ad 0 k → PLc L f1 a e) → W p l e R s m args below meth c H1 locs1 cells slots Q (F0 m 34 ls [])) :
    W p l e R s m args below meth c H locs cells slots Q (F0 m 31 ls [.ref (ad 0 k)]) := by
  rw [nd_8 hk0] at f0
  have f0 : PLc L f (ad 0 k) (.inr (6, [.ref (ad 0 (q 2 k)), .ref (ad 0 (q 3 k)), .int (nI (q 6 k)), .int (nI (q 7 k)), .int (bI (CL k)), .ref (ad 1 k), .int (nI (q 8 k)), .ref (ad 3 k), .ref (ad 2 k), .int (nI (q 9 k))])) := f0
  have hPc := pl_1 hP f0
  have hFc := wF (w := [(ad 0 k, (.inr (6, [.ref (ad 0 (q 2 k)), .ref (ad 0 (q 3 k)), .int (nI (q 6 k)), .int (nI (q 7 k)), .int (bI (CL k)), .ref (ad 1 k), .int (nI (q 8 k)), .ref (ad 3 k), .ref (ad 2 k), .int (nI (q 9 k))]) : va_E))]) hL hA hS.1 (fa_1 f0.1)
  refine mm_qv (mm_runU hK ⟨hx, hb, hml, hown⟩ lk_Mon_123_Since (c_Since_reset l G (ad 0 k) (.ref (ad 0 (q 2 k))) (.ref (ad 0 (q 3 k))) (.int (nI (q 6 k))) (.int (nI (q 7 k))) (.int (bI (CL k))) (.ref (ad 1 k)) (.int (nI (q 8 k))) (.ref (ad 3 k)) (.ref (ad 2 k)) (.int (nI (q 9 k))) (wD nd1)) ⟨rfl, rfl, Nat.le_trans (by decide) hRf, Nat.le_trans (by decide) hRl⟩ (mm_rc hK hPc 0 rfl rfl) hPc rfl hls rfl (Nat.le_of_ble_eq_true rfl) ⟨hRc, hRs⟩ d_Mon_begin_31) hS hFc (fun H1 locs1 e1 hz1 hk1 hS1 => ?_)
  obtain ⟨f9, u1, u2, u3⟩ := pl_upd hP hk1 e1 nd1 rfl
  refine kk f9 H1 locs1 u1 hS1 (fun a e h hB => u2 a e h (fa_1 (fun e => hB (Or.inl e.symm)))) ?_ (fun a e h hB => u2 a e h (fa_1 (fun e => hB e.symm)))
  rw [ns_8 hk0]; exact u3 _ (List.mem_singleton.mpr rfl) f0.1
theorem W_res9 (hK : KG G s) (hx : p.tables.exec = Jvm.exec) (hb : c.code = b_Mon_begin) (hml : c.maxLocals = 2) (hown : s.vm.findClass "MetricLogMonitor" = some m.cls) (hls : ls.size = 2) (hRf : 3 ≤ R.frames) (hRl : 70 ≤ R.locals) (hRc : cells ≤ R.cells) (hRs : slots ≤ R.slots) (hP : va_P G.1 cls_all (va_pl L f) H) (hL : PD A L) (hS : va_S A s.heap H locs) (hA : ∀ q, s.heap.size ≤ q → A q) (f0 : PLc L f (ad 0 k) (ndE q ad CL k)) (hk0 : q 0 k = 9) (kk : ∀ (f1 : Nat → va_E) (H1 : Heap) (locs1 : List Loc), va_P G.1 cls_all (va_pl L f1) H1 → va_S A s.heap H1 locs1 → KP L f L f1 (fun a => a = ad 0 k ∨ a = ad 1 k ∨ (8 ≤ q 0 k ∧ a = ad 2 k)) → PLc L f1 (ad 0 k) (ndE (setq q k 0 0) ad CL k) → (∀ a e, PLc L f a e → a ≠ ad 0 k → PLc L f1 a e) → W p l e R s m args below meth c H1 locs1 cells slots Q (F0 m 34 ls [])) :
    W p l e R s m args below meth c H locs cells slots Q (F0 m 31 ls [.ref (ad 0 k)]) := by
  rw [nd_9 hk0] at f0
  have f0 : PLc L f (ad 0 k) (.inr (7, [.ref (ad 0 (q 2 k)), .ref (ad 0 (q 3 k)), .int (nI (q 6 k)), .int (nI (q 7 k)), .int (bI (CL k)), .ref (ad 1 k), .int (nI (q 8 k)), .ref (ad 3 k), .ref (ad 2 k), .int (nI (q 9 k))])) := f0
  have hPc := pl_1 hP f0
  have hFc := wF (w := [(ad 0 k, (.inr (7, [.ref (ad 0 (q 2 k)), .ref (ad 0 (q 3 k)), .int (nI (q 6 k)), .int (nI (q 7 k)), .int (bI (CL k)), .ref (ad 1 k), .int (nI (q 8 k)), .ref (ad 3 k), .ref (ad 2 k), .int (nI (q 9 k))]) : va_E))]) hL hA hS.1 (fa_1 f0.1)
  refine mm_qv (mm_runU hK ⟨hx, hb, hml, hown⟩ lk_Mon_123_Until (c_Until_reset l G (ad 0 k) (.ref (ad 0 (q 2 k))) (.ref (ad 0 (q 3 k))) (.int (nI (q 6 k))) (.int (nI (q 7 k))) (.int (bI (CL k))) (.ref (ad 1 k)) (.int (nI (q 8 k))) (.ref (ad 3 k)) (.ref (ad 2 k)) (.int (nI (q 9 k))) (wD nd1)) ⟨rfl, rfl, Nat.le_trans (by decide) hRf, Nat.le_trans (by decide) hRl⟩ (mm_rc hK hPc 0 rfl rfl) hPc rfl hls rfl (Nat.le_of_ble_eq_true rfl) ⟨hRc, hRs⟩ d_Mon_begin_31) hS hFc (fun H1 locs1 e1 hz1 hk1 hS1 => ?_)
  obtain ⟨f9, u1, u2, u3⟩ := pl_upd hP hk1 e1 nd1 rfl
  refine kk f9 H1 locs1 u1 hS1 (fun a e h hB => u2 a e h (fa_1 (fun e => hB (Or.inl e.symm)))) ?_ (fun a e h hB => u2 a e h (fa_1 (fun e => hB e.symm)))
  rw [ns_9 hk0]; exact u3 _ (List.mem_singleton.mpr rfl) f0.1
theorem W_res (hK : KG G s) (hx : p.tables.exec = Jvm.exec) (hb : c.code = b_Mon_begin) (hml : c.maxLocals = 2) (hown : s.vm.findClass "MetricLogMonitor" = some m.cls) (hls : ls.size = 2) (hRf : 3 ≤ R.frames) (hRl : 70 ≤ R.locals) (hRc : cells ≤ R.cells) (hRs : slots ≤ R.slots) (hP : va_P G.1 cls_all (va_pl L f) H) (hL : PD A L) (hS : va_S A s.heap H locs) (hA : ∀ q, s.heap.size ≤ q → A q) (f0 : PLc L f (ad 0 k) (ndE q ad CL k)) (hk9 : q 0 k ≤ 9) (kk : ∀ (f1 : Nat → va_E) (H1 : Heap) (locs1 : List Loc), va_P G.1 cls_all (va_pl L f1) H1 → va_S A s.heap H1 locs1 → KP L f L f1 (fun a => a = ad 0 k ∨ a = ad 1 k ∨ (8 ≤ q 0 k ∧ a = ad 2 k)) → PLc L f1 (ad 0 k) (ndE (setq q k 0 0) ad CL k) → (∀ a e, PLc L f a e → a ≠ ad 0 k → PLc L f1 a e) → W p l e R s m args below meth c H1 locs1 cells slots Q (F0 m 34 ls [])) :
    W p l e R s m args below meth c H locs cells slots Q (F0 m 31 ls [.ref (ad 0 k)]) := by
  rcases (show (q 0 k = 0) ∨ (q 0 k = 1 ∨ q 0 k = 2) ∨ (q 0 k = 3) ∨ (q 0 k = 4 ∨ q 0 k = 5) ∨ (q 0 k = 6) ∨ (q 0 k = 7) ∨ (q 0 k = 8) ∨ (q 0 k = 9) by omega) with h | h | h | h | h | h | h | h
  · exact W_res0 hK hx hb hml hown hls hRf hRl hRc hRs hP hL hS hA f0 h kk
  · exact W_res1 hK hx hb hml hown hls hRf hRl hRc hRs hP hL hS hA f0 h kk
  · exact W_res3 hK hx hb hml hown hls hRf hRl hRc hRs hP hL hS hA f0 h kk
  · exact W_res4 hK hx hb hml hown hls hRf hRl hRc hRs hP hL hS hA f0 h kk
  · exact W_res6 hK hx hb hml hown hls hRf hRl hRc hRs hP hL hS hA f0 h kk
  · exact W_res7 hK hx hb hml hown hls hRf hRl hRc hRs hP hL hS hA f0 h kk
  · exact W_res8 hK hx hb hml hown hls hRf hRl hRc hRs hP hL hS hA f0 h kk
  · exact W_res9 hK hx hb hml hown hls hRf hRl hRc hRs hP hL hS hA f0 h kk
end ADV
