/-! reading machines and requests where they lie -/
/-- a machine among other cells -/
def MachIn (E : EE) (fz : va_W) (m : Nat) (M : PM) (wM : va_W) : Prop := ∃ wk, IsMach E fz m M wk ∧ ∀ q ∈ wk, q ∈ wM
theorem MachIn.head {E : EE} {fz : va_W} {m : Nat} {M : PM} {wM : va_W} (h : MachIn E fz m M wM) : ∃ fs, (m, ob 8 fs) ∈ wM := by
  obtain ⟨wk, h1, h2⟩ := h
  obtain ⟨fs, h3⟩ := h1.head
  exact ⟨fs, h2 _ h3⟩
theorem ML.at {E : EE} {fz : va_W} {lm : Nat} {Ms : List PM} {wm wM : va_W} (h : ML E fz lm Ms wm wM) {k : Nat} {M : PM} (hk : Ms[k]? = some M) : ∃ (mas : List Nat) (m : Nat), AL E lm mas wm ∧ mas.length = Ms.length ∧ mas[k]? = some m ∧ MachIn E fz m M wM := by
  obtain ⟨mas, m, wk, pre, post, h1, h2, h3, h4, h5, -⟩ := ml_focus h hk
  exact ⟨mas, m, h1, h2, h3, wk, h4, fun q hq => by rw [h5]; exact List.mem_append_right _ (List.mem_append_left _ hq)⟩
theorem AL.len {E : EE} {a : Nat} {as : List Nat} {w : va_W} (h : AL E a as w) : ∃ (m0 : Int32) (arr : Nat), (a, ob 15 [.int m0, .ref arr, .int (nI as.length)]) ∈ w := by
  obtain ⟨m0, arr, cap, f, -, -, -, h⟩ := h
  rcases h with ⟨-, rfl⟩ | ⟨-, -, rfl⟩
  · exact ⟨m0, arr, List.mem_cons_self⟩
  · exact ⟨m0, arr, List.mem_cons_self⟩
theorem MachIn.peek {E : EE} {fz : va_W} {a : Nat} {M : PM} {w : va_W} (h : MachIn E fz a M w) : ∃ (rn rk rl rs rst la sp lb sp2 : Nat) (fn fk : Nat → Int32) (m0 : Int32) (arr : Nat) (m1 : Int32) (arr1 : Nat), (a, ob 8 [.int (nI (mN M)), .ref rn, .ref rk, .ref rl, .ref rs, .ref rst, .int (mR M), .int (mVt M), .int (nI (mSu M)), .int (nI (mDn M)), .int (bI (mLz M))]) ∈ w ∧
    (rl, ob 9 [.ref la, .int (lT (mL M)), .int (lV (mL M)), .int (nI (lB (mL M))), .int (lBT (mL M)), .ref sp]) ∈ w ∧ (la, ob 15 [.int m0, .ref arr, .int (nI (lE (mL M)).length)]) ∈ w ∧ (rn, iA (aC E 0) 5 fn) ∈ w ∧ (rk, iA (aC E 0) 5 fk) ∈ w ∧
    (rs, ob 9 [.ref lb, .int (lT (mV M)), .int (lV (mV M)), .int (nI (lB (mV M))), .int (lBT (mV M)), .ref sp2]) ∈ w ∧ (lb, ob 15 [.int m1, .ref arr1, .int (nI (lE (mV M)).length)]) ∈ w ∧ (∀ k, k < 5 → fn k = nI (mNx M k) ∧ fk k = nI (mKp M k)) := by
  obtain ⟨wk, h, hs⟩ := h
  obtain ⟨rn, rk, rl, rs, rst, fn, fk, wl, ws, wst, hn, hL, hV, -, rfl⟩ := h
  obtain ⟨la, sp, ges, wl, hE, hg, -, rfl⟩ := hL
  obtain ⟨lb, sp2, ges2, wl2, hE2, hg2, -, rfl⟩ := hV
  obtain ⟨m0, arr, h1⟩ := hE.1.len
  obtain ⟨m1, arr1, h2⟩ := hE2.1.len
  rw [List.length_map] at h1 h2
  have e1 : ges.length = (lE (mL M)).length := by rw [← hg, List.length_map]
  have e2 : ges2.length = (lE (mV M)).length := by rw [← hg2, List.length_map]
  rw [e1] at h1
  rw [e2] at h2
  refine ⟨rn, rk, rl, rs, rst, la, sp, lb, sp2, fn, fk, m0, arr, m1, arr1, hs _ List.mem_cons_self, hs _ ?_, hs _ ?_, hs _ ?_, hs _ ?_, hs _ ?_, hs _ ?_, hn⟩
  · exact List.mem_cons_of_mem _ (List.mem_cons_of_mem _ (List.mem_cons_of_mem _ (List.mem_append_left _ List.mem_cons_self)))
  · exact List.mem_cons_of_mem _ (List.mem_cons_of_mem _ (List.mem_cons_of_mem _ (List.mem_append_left _ (List.mem_cons_of_mem _ h1))))
  · exact List.mem_cons_of_mem _ List.mem_cons_self
  · exact List.mem_cons_of_mem _ (List.mem_cons_of_mem _ List.mem_cons_self)
  · exact List.mem_cons_of_mem _ (List.mem_cons_of_mem _ (List.mem_cons_of_mem _ (List.mem_append_right _ (List.mem_append_left _ List.mem_cons_self))))
  · exact List.mem_cons_of_mem _ (List.mem_cons_of_mem _ (List.mem_cons_of_mem _ (List.mem_append_right _ (List.mem_append_left _ (List.mem_cons_of_mem _ h2)))))
/-- what is told of a machine -/
def oMach (M : PM) (w : Nat) : Int32 := match w with
  | 0 => mR M
  | 1 => lT (mL M)
  | 2 => lV (mL M)
  | 3 => nI (lB (mL M))
  | 4 => nI (lLast (mL M))
  | 5 => nI (mSu M)
  | 6 => nI (mDn M)
  | 7 => mVt M
  | _ => bI (mLz M)
def oFol (M : PM) (k o : Nat) (nx : Bool) : Int32 := if mR M = 3 then (if k = o then (-1) else if nx then nI (mNx M o) else nI (mKp M o)) else (-1)
def cntOf (Ms : List PM) (r : Int32) : Nat → Nat
  | 0 => 0
  | k + 1 => cntOf Ms r k + (if mR ((Ms[k]?).getD m0) = r then 1 else 0)
def gretT (Ms : List PM) : Nat → Int32
  | 0 => 0
  | k + 1 => if gretT Ms k < lT (mL ((Ms[k]?).getD m0)) then lT (mL ((Ms[k]?).getD m0)) else gretT Ms k
def gretS (Ms : List PM) : Nat → Nat
  | 0 => 0
  | k + 1 => max (gretS Ms k) (mSu ((Ms[k]?).getD m0))
def cntAn (R : List PR) : Nat → Nat
  | 0 => 0
  | k + 1 => cntAn R k + (if rAns ((R[k]?).getD r0) = (-1) then 0 else 1)
theorem cntOf_le (Ms : List PM) (r : Int32) : ∀ k, cntOf Ms r k ≤ k := by
  intro k
  induction k with
  | zero => exact Nat.le_refl _
  | succ k ih => unfold cntOf; split <;> omega
theorem cntAn_le (R : List PR) : ∀ k, cntAn R k ≤ k := by
  intro k
  induction k with
  | zero => exact Nat.le_refl _
  | succ k ih => unfold cntAn; split <;> omega
theorem getD_e {α : Type} {l : List α} {k : Nat} {x d : α} (h : l[k]? = some x) : (l[k]?).getD d = x := by rw [h]; rfl
theorem cnt_s {l : List PM} {r : Int32} {i : Nat} {M : PM} (h : l[i]? = some M) : nI (cntOf l r i) + (if mR M = r then 1 else 0) = nI (cntOf l r (i + 1)) := by
  rw [show cntOf l r (i + 1) = cntOf l r i + (if mR ((l[i]?).getD m0) = r then 1 else 0) from rfl, getD_e h]
  by_cases c : mR M = r
  · rw [if_pos c, if_pos c]; exact nI_1 _
  · rw [if_neg c, if_neg c]; exact Int32.add_zero _
theorem gretT_s {l : List PM} {i : Nat} {M : PM} (h : l[i]? = some M) : (if gretT l i < lT (mL M) then lT (mL M) else gretT l i) = gretT l (i + 1) := by
  rw [show gretT l (i + 1) = (if gretT l i < lT (mL ((l[i]?).getD m0)) then lT (mL ((l[i]?).getD m0)) else gretT l i) from rfl, getD_e h]
theorem gretS_s {l : List PM} {i : Nat} {M : PM} (h : l[i]? = some M) (h1 : gretS l i < 2 ^ 31) (h2 : mSu M < 2 ^ 31) : (if nI (gretS l i) < nI (mSu M) then nI (mSu M) else nI (gretS l i)) = nI (gretS l (i + 1)) := by
  rw [al_max h1 h2, show gretS l (i + 1) = max (gretS l i) (mSu ((l[i]?).getD m0)) from rfl, getD_e h]
theorem gretS_le {l : List PM} {b : Nat} (h : ∀ (k : Nat) (M : PM), l[k]? = some M → mSu M ≤ b) : ∀ i, i ≤ l.length → gretS l i ≤ b := by
  intro i
  induction i with
  | zero => exact fun _ => Nat.zero_le _
  | succ i ih =>
    intro hi
    obtain ⟨M, hM⟩ := get_ex (l := l) (i := i) (by omega)
    have := h i M hM
    have := ih (by omega)
    show max (gretS l i) (mSu ((l[i]?).getD m0)) ≤ b
    rw [getD_e hM]
    omega
def leastD (Ms : List PM) : Nat → Int32
  | 0 => -1
  | k + 1 => if ¬ mR ((Ms[k]?).getD m0) = 0 ∧ (leastD Ms k = (-1) ∨ nI (mDn ((Ms[k]?).getD m0)) < leastD Ms k) then nI (mDn ((Ms[k]?).getD m0)) else leastD Ms k
theorem ls_y {l : List PM} {i : Nat} {M : PM} (h : l[i]? = some M) (hc : ¬ mR M = 0 ∧ (leastD l i = (-1) ∨ nI (mDn M) < leastD l i)) : leastD l (i + 1) = nI (mDn M) := by
  show (if ¬ mR ((l[i]?).getD m0) = 0 ∧ (leastD l i = (-1) ∨ nI (mDn ((l[i]?).getD m0)) < leastD l i) then nI (mDn ((l[i]?).getD m0)) else leastD l i) = _
  rw [getD_e h, if_pos hc]
theorem ls_n {l : List PM} {i : Nat} {M : PM} (h : l[i]? = some M) (hc : ¬ (¬ mR M = 0 ∧ (leastD l i = (-1) ∨ nI (mDn M) < leastD l i))) : leastD l (i + 1) = leastD l i := by
  show (if ¬ mR ((l[i]?).getD m0) = 0 ∧ (leastD l i = (-1) ∨ nI (mDn ((l[i]?).getD m0)) < leastD l i) then nI (mDn ((l[i]?).getD m0)) else leastD l i) = _
  rw [getD_e h, if_neg hc]
theorem RL.at {E : EE} {lr : Nat} {R : List PR} {wr wq : va_W} (h : RL E lr R wr wq) {j : Nat} {r : PR} (hj : R[j]? = some r) : ∃ (ras : List Nat) (a : Nat), AL E lr ras wr ∧ ras.length = R.length ∧ ras[j]? = some a ∧ (a, rqC E r) ∈ wq := by
  obtain ⟨ras, a, pre, post, h1, h2, h3, h4, -⟩ := rl_focus h hj
  exact ⟨ras, a, h1, h2, h3, by rw [h4]; exact List.mem_append_right _ (List.mem_append_left _ List.mem_cons_self)⟩
theorem cntAn_s {R : List PR} {i : Nat} {r : PR} (h : R[i]? = some r) : nI (cntAn R i) + (if rAns r = (-1) then 0 else 1) = nI (cntAn R (i + 1)) := by
  rw [show cntAn R (i + 1) = cntAn R i + (if rAns ((R[i]?).getD r0) = (-1) then 0 else 1) from rfl, getD_e h]
  by_cases c : rAns r = (-1)
  · rw [if_pos c, if_pos c]; exact Int32.add_zero _
  · rw [if_neg c, if_neg c]; exact nI_1 _
def smallD (Ms : List PM) : Int32 := if 0 < leastD Ms Ms.length then leastD Ms Ms.length else 0
/-- what is told of the whole net -/
def oMany (P : PN) (w : Nat) : Int32 := match w with
  | 0 => nI (nM P).length
  | 1 => nI (cntOf (nM P) 0 (nM P).length)
  | 2 => nI (cntOf (nM P) 3 (nM P).length)
  | 3 => gretT (nM P) (nM P).length
  | 4 => nI (nB P).length
  | 5 => nLo P
  | 6 => nI (nR P).length
  | 7 => nI (cntAn (nR P) (nR P).length)
  | 8 => nNow P
  | 9 => nI (gretS (nM P) (nM P).length)
  | _ => smallD (nM P)
