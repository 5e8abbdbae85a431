/-! what the public methods make of a net -/
def nTick (P : PN) : PN := (nM P, nB P, nR P, nLo P, nNow P + 1)
def oStand (P : PN) (k : Nat) : PN := nStand (nTick P) k
def oBeat (P : PN) (k : Nat) : PN := nBeat (nTick P) k
def oDrop (P : PN) (i : Nat) : PN := (nM P, (nB P).eraseIdx i, nR P, nLo P + 1, nNow P + 1)
def oTwice (P : PN) (g : PMg) : PN := (nM P, (bSend (pB (nB P) (nLo P)) g).1, nR P, (bSend (pB (nB P) (nLo P)) g).2, nNow P + 1)
def xGive (P : PN) (k j : Nat) : (PM × List PR) × Int32 := pGive (nM P).length (nNow P + 1) (mAt P k) (nR P) j
def oGive (P : PN) (k j : Nat) : PN := ((nM P).set k (xGive P k j).1.1, nB P, (xGive P k j).1.2, nLo P, nNow P + 1)
def oQuick (P : PN) (k j : Nat) : PN := (nM P, nB P, (nR P).set j (rQuick (mAt P k) (rqG (nR P) j) (nNow P + 1)), nLo P, nNow P + 1)
def mCrash (M : PM) : PM := (M.1, (mV M, mV M, lS (mV M)), (0, 0, lB (mV M), lB (mV M), mLz M))
def nSet (P : PN) (k : Nat) (M : PM) : PN := ((nM P).set k M, nB P, nR P, nLo P, nNow P + 1)
def oCrash (P : PN) (k : Nat) : PN := nSet P k (mCrash (mAt P k))
def oStart (P : PN) (k : Nat) : PN := nSet P k (mFollow (mAt P k))
def mSaved (M : PM) : PM := setV M (mL M)
def oSave (P : PN) (k : Nat) : PN := nSet P k (mSaved (mAt P k))
def xComp (P : PN) (k : Nat) : PM × List PR := settle (nM P).length (nNow P + 1) (mComp (mAt P k)) (nR P)
def oComp (P : PN) (k : Nat) : PN := ((nM P).set k (xComp P k).1, nB P, (xComp P k).2, nLo P, nNow P + 1)
def mLazy (M : PM) (z : Bool) : PM := if z = false ∧ ¬ mR M = 0 then setV (setLz M z) (mL M) else setLz M z
def oLazy (P : PN) (k : Nat) (z : Bool) : PN := ((nM P).set k (mLazy (mAt P k) z), nB P, nR P, nLo P, nNow P)
def pL0 : PL := ([], 0, -1, 0, 0, S0)
def mNew (k : Nat) : PM := ((k, fun _ => 0, fun _ => 0), (pL0, pL0, S0), (1, 0, 0, 0, false))
def oMachine (P : PN) : PN := (nM P ++ [mNew (nM P).length], nB P, nR P, nLo P, nNow P)
def rNew (c kd ky : Nat) (a b : Int32) : PR := ((c, kd, ky), (a, b), (-1, -1, -1, 0))
def oRequest (P : PN) (r : PR) : PN := (nM P, nB P, nR P ++ [r], nLo P, nNow P)
def xLost (M : PM) : Nat := lostUp (lB (mL M)) (lE (mL M)) (lB (mV M)) (lE (mV M)) (lE (mL M)).length
theorem nPut_at {P : PN} {k : Nat} {x : PM × PB} (hk : k < (nM P).length) : mAt (nPut P k x) k = (settle (nM P).length (nNow P) x.1 (nR P)).1 := by
  unfold mAt nPut
  show (((nM P).set k (settle (nM P).length (nNow P) x.1 (nR P)).1)[k]?).getD m0 = _
  rw [List.getElem?_set, if_pos rfl, if_pos hk]
  rfl
theorem oStand_e {P : PN} {k : Nat} {M : PM} (hM : (nM P)[k]? = some M) : oStand P k = nPut (nTick P) k (standIf (nM P).length M (pB (nB P) (nLo P))) := by
  unfold oStand nStand
  rw [show mAt (nTick P) k = M from mAt_get (P := nTick P) hM]
  rfl
theorem oBeat_e {P : PN} {k : Nat} {M : PM} (hM : (nM P)[k]? = some M) : oBeat P k = nPut (nTick P) k (en4 M (beatAll (nM P).length M (pB (nB P) (nLo P)))) := by
  unfold oBeat nBeat
  rw [show mAt (nTick P) k = M from mAt_get (P := nTick P) hM]
  rfl
theorem nSet_at {P : PN} {k : Nat} {M : PM} (hk : k < (nM P).length) : mAt (nSet P k M) k = M := by
  unfold mAt nSet
  show (((nM P).set k M)[k]?).getD m0 = _
  rw [List.getElem?_set, if_pos rfl, if_pos hk]
  rfl
theorem mLazy_y {M : PM} {z : Bool} (h : z = false) (h2 : ¬ mR M = 0) : mLazy M z = setV (setLz M z) (mL M) := if_pos ⟨h, h2⟩
theorem mLazy_n {M : PM} {z : Bool} (h : ¬ (z = false ∧ ¬ mR M = 0)) : mLazy M z = setLz M z := if_neg h
/-- a list with one more -/
theorem ML.more {E : EE} {fz : va_W} {lm : Nat} {Ms : List PM} {wm wM : va_W} (h : ML E fz lm Ms wm wM) : ∃ mas : List Nat, AL E lm mas wm ∧ mas.length = Ms.length ∧ okL E wM mas ∧
    ∀ (fz1 w wm1 : va_W) (q : Nat) (M : PM), Ext E fz fz1 → IsMach E fz1 q M w → AL E lm (mas ++ [q]) wm1 → ML E fz1 lm (Ms ++ [M]) wm1 (wM ++ w) := by
  obtain ⟨mm, h1, h2, h3, rfl⟩ := h
  refine ⟨_, h2, by rw [List.length_map, ← h1, List.length_map], ms_ok h3, fun fz1 w wm1 q M he hM hA => ⟨mm ++ [mk3 q M w], ?_, ?_, ?_, ?_⟩⟩
  · rw [List.map_append, h1]; rfl
  · rw [List.map_append]; exact hA
  · intro y hy
    rcases List.mem_append.mp hy with k | k
    · exact (h3 y k).mono he
    · rw [List.mem_singleton.mp k]; exact hM
  · rw [ms_snoc]
theorem RL.more {E : EE} {lr : Nat} {R : List PR} {wr wq : va_W} (h : RL E lr R wr wq) : ∃ ras : List Nat, AL E lr ras wr ∧ ras.length = R.length ∧ okL E wq ras ∧
    ∀ (wr1 : va_W) (q : Nat) (r : PR), AL E lr (ras ++ [q]) wr1 → RL E lr (R ++ [r]) wr1 (wq ++ [(q, rqC E r)]) := by
  obtain ⟨rr, h1, h2, rfl⟩ := h
  refine ⟨_, h2, by rw [List.length_map, ← h1, List.length_map], rq_ok, fun wr1 q r hA => ⟨rr ++ [mk2 q r], ?_, ?_, ?_⟩⟩
  · rw [List.map_append, h1]; rfl
  · rw [List.map_append]; exact hA
  · rw [rs_snoc]
theorem AL.uniq {E : EE} {a : Nat} {as bs : List Nat} {w : va_W} (h : AL E a as w) (k : AL E a bs w) : as = bs := by
  obtain ⟨m0, arr, cap, f, h1, h2, h3, h4⟩ := h
  obtain ⟨m1, ar1, cp1, g, k1, k2, k3, k4⟩ := k
  have e : as.length = bs.length ∧ (∀ i, i < as.length → f i = g i) := by
    rcases h4 with ⟨c1, h4⟩ | ⟨c1, c2, h4⟩ <;> rcases k4 with ⟨d1, k4⟩ | ⟨d1, d2, k4⟩
    · rw [h4] at k4
      simp only [List.cons.injEq, Prod.mk.injEq, Sum.inr.injEq, Sum.inl.injEq, Value.int.injEq, and_true, true_and] at k4
      refine ⟨(nI_eq (by omega) (by omega)).mp k4.1.2.2, fun i _ => ?_⟩
      rw [k4.2.2.2]
    · rw [h4] at k4
      simp at k4
    · rw [h4] at k4
      simp at k4
    · exact ⟨by omega, fun i hi => by omega⟩
  apply List.ext_getElem?
  intro i
  by_cases hi : i < as.length
  · rw [← h3 i hi, ← k3 i (by omega), e.2 i hi]
  · rw [List.getElem?_eq_none (by omega), List.getElem?_eq_none (by omega)]
