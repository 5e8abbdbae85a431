/-! what clients do, on one machine -/
abbrev pE (t r : Int32) : PEn := (t, r)
def rqG (R : List PR) (j : Nat) : PR := (R[j]?).getD r0
def rBeg (R : List PR) (j : Nat) (nw : Int32) : List PR := R.set j (rBegin (rqG R j) nw)
theorem rqG_e {R : List PR} {j : Nat} {r : PR} (h : R[j]? = some r) : rqG R j = r := by unfold rqG; rw [h]; rfl
theorem rBeg_e {R : List PR} {j : Nat} {r : PR} (nw : Int32) (h : R[j]? = some r) : rBeg R j nw = R.set j (rBegin r nw) := by unfold rBeg; rw [rqG_e h]
abbrev gvIf (M : PM) : Prop := mR M = 3 ∧ (lE (mL M)).length < 30
def mGive (M : PM) (j : Nat) : PM := setL M (lAdd (mL M) (pE (lT (mL M)) (nI j)))
def pGive (sz : Nat) (nw : Int32) (M : PM) (R : List PR) (j : Nat) : (PM × List PR) × Int32 := if gvIf M then (settle sz nw (mGive M j) (rBeg R j nw), nI (lLast (mL M) + 1)) else (en3 M (rBeg R j nw), (-1))
theorem give_ok {sz nr b j : Nat} {M : PM} (h : mOK sz nr b M) (hj : j < nr) : mOK sz nr (b + 1) (mGive M j) := by
  obtain ⟨⟨o1, o2⟩, ⟨o3, o4⟩, ⟨o5, o6, o7, o8⟩, ⟨o9, o10⟩, o11, o12⟩ := h
  have hl : lLast (mL (mGive M j)) = lLast (mL M) + 1 := by
    show lB (mL M) + (lE (mL M) ++ [_]).length = _
    rw [List.length_append, List.length_singleton]; rfl
  refine ⟨⟨o1, o2⟩, ⟨by omega, ?_⟩, ⟨o5, o6, ?_, ?_⟩, ⟨enOK_add o9 (Or.inr ⟨j, hj, rfl⟩), o10⟩, fun k hk => ?_, o12⟩
  · show lLast (mV M) ≤ b + 1; omega
  · show mSu M ≤ b + 1; omega
  · show mSu M = mDn M ∨ mSu M ≤ lLast (mL (mGive M j)); omega
  · have := o11 k hk
    show mNx M k ≤ b + 1 + 1 ∧ mKp M k ≤ b + 1
    omega
def mComp (M : PM) : PM := if mDn M ≤ lLast (mL M) then setL M (List.drop (mDn M - lB (mL M)) (lE (mL M)), lT (mL M), lV (mL M), mDn M, lTmA (mL M) (mDn M), mS M) else M
def mCompD (M : PM) : PM := setL M (List.drop (mDn M - lB (mL M)) (lE (mL M)), lT (mL M), lV (mL M), mDn M, lTmA (mL M) (mDn M), mS M)
def compN (M : PM) : Nat := if mDn M ≤ lLast (mL M) then mDn M - lB (mL M) else 0
theorem comp_ok {sz nr b : Nat} {M : PM} (h : mOK sz nr b M) : mOK sz nr b (mComp M) := by
  obtain ⟨⟨o1, o2⟩, ⟨o3, o4⟩, ⟨o5, o6, o7, o8⟩, ⟨o9, o10⟩, o11, o12⟩ := h
  unfold mComp
  split
  · rename_i hd
    have hll : lLast (mL M) = lB (mL M) + (lE (mL M)).length := rfl
    have hl : lLast (mL (mCompD M)) = lLast (mL M) := by
      show mDn M + (List.drop (mDn M - lB (mL M)) (lE (mL M))).length = _
      rw [List.length_drop]; omega
    refine ⟨⟨o1, o2⟩, ⟨?_, o4⟩, ⟨?_, o6, o7, ?_⟩, ⟨fun e he => o9 e (List.mem_of_mem_drop he), o10⟩, o11, o12⟩
    · show lLast (mL (mCompD M)) ≤ b; omega
    · show mDn M ≤ mDn M; omega
    · show mSu M = mDn M ∨ mSu M ≤ lLast (mL (mCompD M)); omega
  · exact ⟨⟨o1, o2⟩, ⟨o3, o4⟩, ⟨o5, o6, o7, o8⟩, ⟨o9, o10⟩, o11, o12⟩
theorem settle_L {sz : Nat} {now : Int32} {M : PM} {R : List PR} {b : Nat} (h : mOK sz R.length b M) (hr : rqOK R) : mL (settle sz now M R).1 = mL M := by
  obtain ⟨hi, hen⟩ := sureOf_inv h hr
  have hd := doGo_inv (now := now) hen (mSu (sureOf sz M) - mDn (sureOf sz M)) (sureOf sz M, R) hi (Nat.le_refl _)
  have hs := sureOf_f (sz := sz) (M := M)
  unfold settle doAll
  generalize doGo now (mSu (sureOf sz M) - mDn (sureOf sz M)) (sureOf sz M, R) = x at hd
  have e : mL (mSave x.1) = mL x.1 := by unfold mSave; split <;> rfl
  show mL (mSave x.1) = mL M
  rw [e, hd.1.1, hs.1]
theorem comp_n {M : PM} (h : lB (mL M) ≤ mDn M) : (lE (mL M)).length - (lE (mL (mComp M))).length = compN M ∧ (lE (mL (mComp M))).length ≤ (lE (mL M)).length := by
  have hll : lLast (mL M) = lB (mL M) + (lE (mL M)).length := rfl
  unfold mComp compN
  split
  · show (lE (mL M)).length - (List.drop (mDn M - lB (mL M)) (lE (mL M))).length = _ ∧ (List.drop (mDn M - lB (mL M)) (lE (mL M))).length ≤ _
    rw [List.length_drop]
    omega
  · omega
theorem IsMach.peekS {E : EE} {fz : va_W} {a : Nat} {M : PM} {w : va_W} (h : IsMach E fz a M w) : ∃ (rn rk rl rs rst r0 r1 r2 r3 r4 r5 : Nat) (f0 : Nat → Int32), (a, ob 8 [.int (nI (mN M)), .ref rn, .ref rk, .ref rl, .ref rs, .ref rst, .int (mR M), .int (mVt M), .int (nI (mSu M)), .int (nI (mDn M)), .int (bI (mLz M))]) ∈ w ∧
    (rst, ob 7 [.ref r0, .ref r1, .ref r2, .ref r3, .ref r4, .ref r5, .int (mS M 6 0)]) ∈ w ∧ (r0, iA (aC E 0) 4 f0) ∈ w ∧ ∀ k, k < 4 → f0 k = mS M 0 k := by
  obtain ⟨rn, rk, rl, rs, rst, fn, fk, wl, ws, wst, -, -, -, hS, rfl⟩ := h
  obtain ⟨sr, f0, f1, f2, f3, f4, f5, h6, rfl⟩ := hS
  refine ⟨rn, rk, rl, rs, rst, sr 0, sr 1, sr 2, sr 3, sr 4, sr 5, f0, List.mem_cons_self, ?_, ?_, fun k hk => (h6 k hk).1⟩
  · exact List.mem_cons_of_mem _ (List.mem_cons_of_mem _ (List.mem_cons_of_mem _ (List.mem_append_right _ (List.mem_append_right _ List.mem_cons_self))))
  · exact List.mem_cons_of_mem _ (List.mem_cons_of_mem _ (List.mem_cons_of_mem _ (List.mem_append_right _ (List.mem_append_right _ (List.mem_cons_of_mem _ List.mem_cons_self)))))
/-- a request asked of the leader at once -/
def rQuick (M : PM) (r : PR) (nw : Int32) : PR := if mR M = 3 then rAnswer (rBegin r nw) (mS M 0 (rY r)) nw else r
