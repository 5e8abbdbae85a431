/-! the net's pure state and what its methods make of it -/
def Ext (_ : EE) (fz fz1 : va_W) : Prop := ∀ q ∈ fz, q ∈ fz1
theorem Ext.rfl' {E : EE} {fz : va_W} : Ext E fz fz := fun _ h => h
theorem Ext.tr {E : EE} {f1 f2 f3 : va_W} (h : Ext E f1 f2) (k : Ext E f2 f3) : Ext E f1 f3 := fun q hq => k q (h q hq)
abbrev lLast (L : PL) : Nat := lB L + (lE L).length
def lTmA (L : PL) (n : Nat) : Int32 := lTm (lB L) (lBT L) (lE L) n
def mkL (es : List PEn) (t v : Int32) (b : Nat) (bt : Int32) (S : PS) : PL := (es, t, v, b, bt, S)
def setL (M : PM) (L : PL) : PM := (M.1, (L, M.2.1.2), M.2.2)
def setV (M : PM) (L : PL) : PM := (M.1, (M.2.1.1, L, M.2.1.2.2), M.2.2)
def setS (M : PM) (S : PS) : PM := (M.1, (M.2.1.1, M.2.1.2.1, S), M.2.2)
def setR (M : PM) (r v : Int32) : PM := (M.1, M.2.1, (r, v, M.2.2.2.2))
def setSu (M : PM) (s : Nat) : PM := (M.1, M.2.1, (M.2.2.1, M.2.2.2.1, s, M.2.2.2.2.2))
def setDn (M : PM) (d : Nat) : PM := (M.1, M.2.1, (M.2.2.1, M.2.2.2.1, M.2.2.2.2.1, d, M.2.2.2.2.2.2))
def setLz (M : PM) (z : Bool) : PM := (M.1, M.2.1, (M.2.2.1, M.2.2.2.1, M.2.2.2.2.1, M.2.2.2.2.2.1, z))
def setNK (M : PM) (nx kp : Nat → Nat) : PM := ((M.1.1, nx, kp), M.2)
/-- a log with an entry more -/
def lAdd (L : PL) (e : PEn) : PL := (lE L ++ [e], L.2)
/-- messages, and how many were lost -/
abbrev PB : Type := List PMg × Int32
def bSend (B : PB) (g : PMg) : PB := if B.1.length = 30 then (B.1.drop 1 ++ [g], B.2 + 1) else (B.1 ++ [g], B.2)
def toAll (f : Nat → PMg) (me : Nat) (B : PB) : Nat → PB
  | 0 => B
  | k + 1 => if k = me then toAll f me B k else bSend (toAll f me B k) (f k)
/-- a message as it is made -/
def mk0 (w : Nat) (M : PM) (to n : Nat) (it : Int32) : PMg := ((w, mN M, to), (lT (mL M), n, it), (false, 0, [], lS (mL M)))
def mkA (w : Nat) (M : PM) (to : Nat) (y : Bool) (n : Nat) : PMg := ((w, mN M, to), (lT (mL M), n, 0), (y, 0, [], lS (mL M)))
def mAsk (M : PM) (to : Nat) : PMg := mk0 0 M to (lLast (mL M)) (lTmA (mL M) (lLast (mL M)))
def mNext (M : PM) (to : Nat) : Nat := min (mNx M to) (lLast (mL M) + 1)
def mMore (M : PM) (to : Nat) : PMg := if mNext M to ≤ lB (mL M) then mk0 4 M to (lB (mL M)) (lBT (mL M)) else
  ((2, mN M, to), (lT (mL M), mNext M to - 1, lTmA (mL M) (mNext M to - 1)), (false, mSu M, ((lE (mL M)).drop (mNext M to - lB (mL M) - 1)).take 2, lS (mL M)))
/-- how many votes -/
def vtUp (v : Int32) : Nat → Int32
  | 0 => 0
  | k + 1 => vtUp v k + (v >>> (nI k &&& 31) &&& 1)
def mLead (M : PM) : PM := setNK (setR (setL M (lAdd (mL M) (lT (mL M), -1))) 3 (mVt M)) (fun _ => lLast (mL M) + 1) (fun _ => 0)
abbrev isMost (sz : Nat) (v : Int32) : Prop := nI sz < 2 * vtUp v sz
def beatAll (sz : Nat) (M : PM) (B : PB) : PB := toAll (mMore M) (mN M) B sz
def leadIf (sz : Nat) (M : PM) (B : PB) : PM × PB := if isMost sz (mVt M) then (mLead M, beatAll sz (mLead M) B) else (M, B)
def mCand (M : PM) : PM := setR (setL M (lE (mL M), lT (mL M) + 1, nI (mN M), (mL M).2.2.2)) 2 (1 <<< (nI (mN M) &&& 31))
def askAll (sz : Nat) (M : PM) (B : PB) : PB := toAll (mAsk M) (mN M) B sz
def standIf (sz : Nat) (M : PM) (B : PB) : PM × PB := leadIf sz (mCand M) (askAll sz (mCand M) B)
/-- how many keep an entry -/
def kpUp (M : PM) (n : Nat) : Nat → Nat
  | 0 => 1
  | k + 1 => kpUp M n k + (if k = mN M then 0 else if n ≤ mKp M k then 1 else 0)
def sureGo (sz : Nat) (M : PM) : Nat → Nat
  | 0 => mSu M
  | n + 1 => if n + 1 ≤ mSu M then mSu M else if sz < 2 * kpUp M (n + 1) sz ∧ lTmA (mL M) (n + 1) = lT (mL M) then n + 1 else sureGo sz M n
def mSure (sz : Nat) (M : PM) : PM := setSu M (sureGo sz M (lLast (mL M)))
def rAnswer (r : PR) (x now : Int32) : PR := (r.1, r.2.1, if rAns r = (-1) ∧ ¬ x = (-1) then x else rRes r, rSent r, if rAns r = (-1) ∧ ¬ x = (-1) then now else rAns r, rTimes r)
def rBegin (r : PR) (now : Int32) : PR := (r.1, r.2.1, rRes r, if rSent r = (-1) then now else rSent r, rAns r, rTimes r + 1)
def r0 : PR := ((0, 0, 0), (0, 0), (0, 0, 0, 0))
def enG (L : PL) (n : Nat) : PEn := ((lE L)[n - lB L - 1]?).getD (0, 0)
def rqAt (R : List PR) (x : Int32) : PR := (R[x.toNatClampNeg]?).getD r0
def doEn (now : Int32) (e : PEn) (x : PM × List PR) : PM × List PR := if e.2 = (-1) then x else
  (setS x.1 (sDoes (mS x.1) e.2 (rC (rqAt x.2 e.2)) (rK (rqAt x.2 e.2)) (rY (rqAt x.2 e.2)) (rA (rqAt x.2 e.2)) (rB (rqAt x.2 e.2))).1,
    if mR x.1 = 3 ∧ e.1 = lT (mL x.1) then x.2.set e.2.toNatClampNeg (rAnswer (rqAt x.2 e.2) (sDoes (mS x.1) e.2 (rC (rqAt x.2 e.2)) (rK (rqAt x.2 e.2)) (rY (rqAt x.2 e.2)) (rA (rqAt x.2 e.2)) (rB (rqAt x.2 e.2))).2 now) else x.2)
def doStep (now : Int32) (x : PM × List PR) : PM × List PR := doEn now (enG (mL x.1) (mDn x.1 + 1)) (setDn x.1 (mDn x.1 + 1), x.2)
def doGo (now : Int32) : Nat → PM × List PR → PM × List PR
  | 0, x => x
  | n + 1, x => doGo now n (doStep now x)
def mSave (M : PM) : PM := if mLz M then M else setV M (mL M)
def sureOf (sz : Nat) (M : PM) : PM := if mR M = 3 then mSure sz M else M
def doAll (now : Int32) (x : PM × List PR) : PM × List PR := doGo now (mSu x.1 - mDn x.1) x
def settle (sz : Nat) (now : Int32) (M : PM) (R : List PR) : PM × List PR := (mSave (doAll now (sureOf sz M, R)).1, (doAll now (sureOf sz M, R)).2)
def mFollow (M : PM) : PM := setR M 1 0
def mMeet (M : PM) (t : Int32) : PM := if lT (mL M) < t then mFollow (setL M (lE (mL M), t, (-1), (mL M).2.2.2)) else M
/-- what is asked -/
abbrev askNew (L : PL) (g : PMg) : Prop := lTmA L (lLast L) < gIt g ∨ gIt g = lTmA L (lLast L) ∧ lLast L ≤ gN g
def askYes (M : PM) (g : PMg) : Bool := decide (gTm g = lT (mL M) ∧ (lV (mL M) = (-1) ∨ lV (mL M) = nI (gF g)) ∧ askNew (mL M) g)
def mVoted (M : PM) (g : PMg) : PM := setL M (lE (mL M), lT (mL M), if askYes M g then nI (gF g) else lV (mL M), (mL M).2.2.2)
def pAsk (M : PM) (B : PB) (g : PMg) : PM × PB := (mVoted M g, bSend B (mkA 1 (mVoted M g) (gF g) (askYes M g) 0))
def upN (f : Nat → Nat) (k x : Nat) : Nat → Nat := fun j => if j = k then x else f j
def pHas (M : PM) (g : PMg) : PM := if gY g then
    setNK M (upN (mNx M) (gF g) (max (mKp M (gF g)) (min (gN g) (lLast (mL M))) + 1)) (upN (mKp M) (gF g) (max (mKp M (gF g)) (min (gN g) (lLast (mL M)))))
  else setNK M (upN (mNx M) (gF g) (max 1 (min (mNx M (gF g)) (gN g + 1)))) (mKp M)
def mSnap (M : PM) (g : PMg) : PM := if mSu M < gN g then setDn (setSu (setS (setL M ([], lT (mL M), lV (mL M), gN g, gIt g, gSn g)) (gSn g)) (gN g)) (gN g) else M
def pSnap (M : PM) (B : PB) (g : PMg) : PM × PB := (mSnap M g, bSend B (mkA 3 (mSnap M g) (gF g) true (gN g)))
def tkCut (b : Nat) (es : List PEn) (n : Nat) (e : PEn) : List PEn := if (b < n ∧ n ≤ b + es.length) ∧ ¬ (es[n - b - 1]?.getD (0, 0)).1 = e.1 then es.take (n - b - 1) else es
def tkAdd (b : Nat) (es : List PEn) (n : Nat) (e : PEn) : List PEn := if b < n ∧ n ≤ b + es.length then es else es ++ [e]
def tkStep (b : Nat) (es : List PEn) (n : Nat) (e : PEn) : List PEn := if n ≤ b then es else tkAdd b (tkCut b es n e) n e
def tkUp (b : Nat) (es : List PEn) (a : Nat) (en : List PEn) : Nat → List PEn
  | 0 => es
  | k + 1 => tkStep b (tkUp b es a en k) (a + 1 + k) (en[k]?.getD (0, 0))
abbrev tkNot (M : PM) (g : PMg) : Prop := lLast (mL M) < gN g ∨ lB (mL M) < gN g ∧ ¬ lTmA (mL M) (gN g) = gIt g
def mTake (M : PM) (g : PMg) : PM := setSu (setL M (tkUp (lB (mL M)) (lE (mL M)) (gN g) (gE g) (gE g).length, (mL M).2)) (max (mSu M) (min (gN g + (gE g).length) (gS g)))
def pTake (M : PM) (B : PB) (g : PMg) : PM × PB := if tkNot M g then (M, bSend B (mkA 3 M (gF g) false (min (gN g - 1) (lLast (mL M)))))
  else (mTake M g, bSend B (mkA 3 (mTake M g) (gF g) true (gN g + (gE g).length)))
def mBack (M : PM) : PM := if mR M = 2 then mFollow M else M
def pFollow (M : PM) (B : PB) (g : PMg) : PM × PB := if gTm g < lT (mL M) then (M, bSend B (mkA 3 M (gF g) false 0))
  else if gW g = 4 then pSnap (mBack M) B g else pTake (mBack M) B g
def mVote (M : PM) (g : PMg) : PM := setR M (mR M) (mVt M ||| 1 <<< (nI (gF g) &&& 31))
def pVote (sz : Nat) (M : PM) (B : PB) (g : PMg) : PM × PB := if gY g = true ∧ mR M = 2 ∧ gTm g = lT (mL M) then leadIf sz (mVote M g) B else (M, B)
def pHasIf (M : PM) (g : PMg) : PM := if mR M = 3 ∧ gTm g = lT (mL M) then pHas M g else M
/-- what a machine does at a message, but for the settling -/
def pMsg (sz : Nat) (M : PM) (B : PB) (g : PMg) : PM × PB := if gW g = 0 then pAsk M B g else if gW g = 1 then pVote sz M B g else if gW g = 3 then (pHasIf M g, B) else pFollow M B g
/-- whether it comes to lead at it: 1 or 0 -/
def mLeads (sz : Nat) (M : PM) (g : PMg) : Nat := if gW g = 1 ∧ (gY g = true ∧ mR M = 2 ∧ gTm g = lT (mL M)) ∧ isMost sz (mVt (mVote M g)) then 1 else 0
/-- the net: machines, messages, requests, lost, now -/
abbrev PN : Type := List PM × List PMg × List PR × Int32 × Int32
abbrev nM (P : PN) : List PM := P.1
abbrev nB (P : PN) : List PMg := P.2.1
abbrev nR (P : PN) : List PR := P.2.2.1
abbrev nLo (P : PN) : Int32 := P.2.2.2.1
abbrev nNow (P : PN) : Int32 := P.2.2.2.2
def m0 : PM := ((0, fun _ => 0, fun _ => 0), (([], 0, -1, 0, 0, S0), ([], 0, -1, 0, 0, S0), S0), (1, 0, 0, 0, false))
def mAt (P : PN) (k : Nat) : PM := ((nM P)[k]?).getD m0
/-- machine k in the place of what it was, messages, requests -/
def nPut (P : PN) (k : Nat) (x : PM × PB) : PN :=
  ((nM P).set k (settle (nM P).length (nNow P) x.1 (nR P)).1, x.2.1, (settle (nM P).length (nNow P) x.1 (nR P)).2, x.2.2, nNow P)
def nDel (P : PN) (i : Nat) : PN := (nM P, (nB P).eraseIdx i, P.2.2)
def nDeliver (P : PN) (i : Nat) (g : PMg) : PN := if mR (mAt P (gT g)) = 0 then (nM P, (nB P).eraseIdx i, nR P, nLo P + 1, nNow P)
  else nPut (nDel P i) (gT g) (pMsg (nM P).length (mMeet (mAt P (gT g)) (gTm g)) ((nB P).eraseIdx i, nLo P) g)
def nLeads (P : PN) (g : PMg) : Nat := if mR (mAt P (gT g)) = 0 then 0 else mLeads (nM P).length (mMeet (mAt P (gT g)) (gTm g)) g
def nAll : Nat → PN → PN
  | 0, P => P
  | n + 1, P => match (nB P)[0]? with
    | none => P
    | some g => nAll n (nDeliver P 0 g)
def nAllN : Nat → PN → Nat
  | 0, _ => 0
  | n + 1, P => match (nB P)[0]? with
    | none => 0
    | some g => nAllN n (nDeliver P 0 g) + 1
def nAllL : Nat → PN → Nat
  | 0, _ => 0
  | n + 1, P => match (nB P)[0]? with
    | none => 0
    | some g => nLeads P g + nAllL n (nDeliver P 0 g)
def nStand (P : PN) (k : Nat) : PN := nPut P k (standIf (nM P).length (mAt P k) (nB P, nLo P))
def nBeat (P : PN) (k : Nat) : PN := nPut P k (mAt P k, beatAll (nM P).length (mAt P k) (nB P, nLo P))
/-! how a net lies in the cells -/
/-- the list of the messages -/
def BL (E : EE) (fz : va_W) (lb : Nat) (bs : List PMg) (wb : va_W) : Prop := ∃ gs : List (Nat × PMg), gs.map Prod.snd = bs ∧ AL E lb (gs.map Prod.fst) wb ∧ ∀ g ∈ gs, MsgIn E fz g.1 g.2
theorem BL.head {E : EE} {fz : va_W} {lb : Nat} {bs : List PMg} {wb : va_W} (h : BL E fz lb bs wb) : ∃ fs, (lb, ob 15 fs) ∈ wb := by
  obtain ⟨gs, -, h, -⟩ := h
  exact h.head
theorem BL.mono {E : EE} {fz fz1 : va_W} {lb : Nat} {bs : List PMg} {wb : va_W} (h : ∀ q ∈ fz, q ∈ fz1) (k : BL E fz lb bs wb) : BL E fz1 lb bs wb := by
  obtain ⟨gs, h1, h2, h3⟩ := k
  exact ⟨gs, h1, h2, fun g hg => (h3 g hg).mono h⟩
theorem msg_ok {E : EE} {fz : va_W} {gs : List (Nat × PMg)} (h : ∀ g ∈ gs, MsgIn E fz g.1 g.2) : okL E fz (gs.map Prod.fst) := by
  intro y hy
  obtain ⟨g, hg, rfl⟩ := List.mem_map.mp hy
  obtain ⟨ra, sp, ges, f, h1, -⟩ := h g hg
  exact Or.inl ⟨11, _, h1, by omega⟩
theorem msg_ok1 {E : EE} {fz : va_W} {a : Nat} {m : PMg} (h : MsgIn E fz a m) : okE E fz a := by
  obtain ⟨ra, sp, ges, f, h1, -⟩ := h
  exact Or.inl ⟨11, _, h1, by omega⟩
/-- the requests' cells -/
def RS (E : EE) (rr : List (Nat × PR)) : va_W := rr.map (fun p => (p.1, rqC E p.2))
/-- the list of the requests -/
def RL (E : EE) (lr : Nat) (rqs : List PR) (wr wq : va_W) : Prop := ∃ rr : List (Nat × PR), rr.map Prod.snd = rqs ∧ AL E lr (rr.map Prod.fst) wr ∧ wq = RS E rr
theorem RL.head {E : EE} {lr : Nat} {rqs : List PR} {wr wq : va_W} (h : RL E lr rqs wr wq) : ∃ fs, (lr, ob 15 fs) ∈ wr := by
  obtain ⟨rr, -, h, -⟩ := h
  exact h.head
theorem rq_ok {E : EE} {rr : List (Nat × PR)} : okL E (RS E rr) (rr.map Prod.fst) := by
  intro y hy
  obtain ⟨g, hg, rfl⟩ := List.mem_map.mp hy
  exact Or.inl ⟨10, _, List.mem_map.mpr ⟨g, hg, rfl⟩, by omega⟩
theorem cut_at {α : Type} {l : List α} {j : Nat} {x : α} (h : l[j]? = some x) : l = l.take j ++ x :: l.drop (j + 1) := by
  obtain ⟨hl, e⟩ := List.getElem?_eq_some_iff.mp h
  have hd : l.drop j = x :: l.drop (j + 1) := by rw [← e]; exact List.drop_eq_getElem_cons hl
  rw [← hd, List.take_append_drop]
theorem rs_ap {E : EE} {a b : List (Nat × PR)} {x : Nat × PR} : RS E (a ++ x :: b) = RS E a ++ ([(x.1, rqC E x.2)] ++ RS E b) := by
  unfold RS; rw [List.map_append, List.map_cons]; rfl
theorem rs_at {E : EE} {rr : List (Nat × PR)} {j : Nat} {x : Nat × PR} (h : rr[j]? = some x) : RS E rr = RS E (rr.take j) ++ ([(x.1, rqC E x.2)] ++ RS E (rr.drop (j + 1))) := by
  rw [← rs_ap, ← cut_at h]
theorem rs_set {E : EE} {rr : List (Nat × PR)} {j : Nat} {a : Nat} {r : PR} (hl : j < rr.length) : RS E (rr.take j) ++ ([(a, rqC E r)] ++ RS E (rr.drop (j + 1))) = RS E (rr.set j (a, r)) := by
  rw [List.set_eq_take_append_cons_drop, if_pos hl, rs_ap]
/-- the machines' cells -/
def MS (mm : List (Nat × PM × va_W)) : va_W := (mm.map (fun x => x.2.2)).flatten
/-- the list of the machines -/
def ML (E : EE) (fz : va_W) (lm : Nat) (Ms : List PM) (wm wk : va_W) : Prop := ∃ mm : List (Nat × PM × va_W), mm.map (fun x => x.2.1) = Ms ∧ AL E lm (mm.map Prod.fst) wm ∧ (∀ x ∈ mm, IsMach E fz x.1 x.2.1 x.2.2) ∧ wk = MS mm
theorem ML.head {E : EE} {fz : va_W} {lm : Nat} {Ms : List PM} {wm wk : va_W} (h : ML E fz lm Ms wm wk) : ∃ fs, (lm, ob 15 fs) ∈ wm := by
  obtain ⟨mm, -, h, -⟩ := h
  exact h.head
theorem ML.mono {E : EE} {fz fz1 : va_W} {lm : Nat} {Ms : List PM} {wm wk : va_W} (h : ∀ q ∈ fz, q ∈ fz1) (k : ML E fz lm Ms wm wk) : ML E fz1 lm Ms wm wk := by
  obtain ⟨mm, h1, h2, h3, h4⟩ := k
  exact ⟨mm, h1, h2, fun g hg => (h3 g hg).mono h, h4⟩
theorem ms_ap {a b : List (Nat × PM × va_W)} {x : Nat × PM × va_W} : MS (a ++ x :: b) = MS a ++ (x.2.2 ++ MS b) := by
  unfold MS; rw [List.map_append, List.map_cons, List.flatten_append, List.flatten_cons]
theorem ms_at {mm : List (Nat × PM × va_W)} {j : Nat} {x : Nat × PM × va_W} (h : mm[j]? = some x) : MS mm = MS (mm.take j) ++ (x.2.2 ++ MS (mm.drop (j + 1))) := by
  rw [← ms_ap, ← cut_at h]
theorem ms_set {mm : List (Nat × PM × va_W)} {j : Nat} {y : Nat × PM × va_W} (hl : j < mm.length) : MS (mm.take j) ++ (y.2.2 ++ MS (mm.drop (j + 1))) = MS (mm.set j y) := by
  rw [List.set_eq_take_append_cons_drop, if_pos hl, ms_ap]
theorem ms_ok {E : EE} {fz : va_W} {mm : List (Nat × PM × va_W)} (h : ∀ x ∈ mm, IsMach E fz x.1 x.2.1 x.2.2) : okL E (MS mm) (mm.map Prod.fst) := by
  intro y hy
  obtain ⟨g, hg, rfl⟩ := List.mem_map.mp hy
  obtain ⟨fs, hf⟩ := (h g hg).head
  exact Or.inl ⟨8, _, List.mem_flatten.mpr ⟨g.2.2, List.mem_map.mpr ⟨g, hg, rfl⟩, hf⟩, by omega⟩
theorem any_self {E : EE} {X : Fx} {cc : ByteArray} {own : String} {nL fr mc ms rl : Nat} (hX : Cx E X cc own nL fr mc ms rl) {ws : va_W} {H : Heap} {y ci : Nat} {fs : List Value} {r : vw_C} (hP : va_P E.1 Cl ws H) (hm : (y, ob ci fs) ∈ ws) (hr : Cl[ci]? = some r) : va_Any r.1 (xs X) H y := by
  obtain ⟨q0, h0⟩ := List.mem_iff_getElem?.mp hm
  exact va_rAny hX.2.2.2.2.2.2.2.2.1 hP h0 hr (fun comp c0 e1 e2 => vb_asgS comp c0 e1 e2)
/-- the entry of which termAt tells -/
theorem tm_ex {ges : List (Nat × PEn)} {L : PL} (hges : ges.map Prod.snd = lE L) {n : Nat} (h1 : lB L ≤ n) (h2 : n ≤ lLast L) : ∃ g : Nat × PEn, (¬ n = lB L → ges[n - lB L - 1]? = some g ∧ lB L < n) ∧ (if n = lB L then lBT L else g.2.1) = lTmA L n := by
  by_cases h : n = lB L
  · exact ⟨(0, 0, 0), fun k => absurd h k, by rw [if_pos h]; unfold lTmA lTm; rw [if_pos h]⟩
  · have hl : ges.length = (lE L).length := by rw [← hges, List.length_map]
    obtain ⟨g, hg⟩ := get_ex (l := ges) (i := n - lB L - 1) (by have : lLast L = lB L + (lE L).length := rfl; omega)
    refine ⟨g, fun _ => ⟨hg, by omega⟩, ?_⟩
    unfold lTmA lTm
    rw [if_neg h, if_neg h, ← hges, List.getElem?_map, hg]
    rfl
theorem nI_s1 {a b : Nat} (h : b ≤ a + 1) : nI a - nI b + 1 = nI (a + 1 - b) := by
  rw [← pk_sub h, ← nI_1]
  apply Int32.toBitVec_inj.mp
  simp only [Int32.toBitVec_add, Int32.toBitVec_sub]
  generalize (nI a).toBitVec = x
  generalize (nI b).toBitVec = y
  generalize (1 : Int32).toBitVec = z
  rw [BitVec.sub_eq_add_neg, BitVec.sub_eq_add_neg, BitVec.add_assoc, BitVec.add_assoc, BitVec.add_comm (-y) z]
theorem al_min2 {a : Nat} (ha : a < 2 ^ 31) : (if nI a < 2 then nI a else 2) = nI (min 2 a) := al_min (a := 2) (b := a) (by omega) ha
theorem al_max0 {a : Nat} (ha : a < 2 ^ 31) : (if (0 : Int32) < nI a then nI a else 0) = nI a := by
  have := al_max (a := 0) (b := a) (by omega) ha
  rw [Nat.max_eq_right (Nat.zero_le _)] at this
  exact this
theorem al_max1 {a : Nat} (ha : a < 2 ^ 31) : (if (1 : Int32) < nI a then nI a else 1) = nI (max 1 a) := al_max (a := 1) (b := a) (by omega) ha
theorem upO_s {f : Nat → Option Nat} {k : Nat} {x : Option Nat} : va_up f k x k = x := by simp [va_up]
theorem upO_n {f : Nat → Option Nat} {k j : Nat} {x : Option Nat} (h : ¬ j = k) : va_up f k x j = f j := by simp [va_up, h]
theorem IsMach.peek {E : EE} {fz : va_W} {a : Nat} {M : PM} {w : va_W} (h : IsMach E fz a M w) : ∃ rn rk rl rs rst la sp : Nat, (a, ob 8 [.int (nI (mN M)), .ref rn, .ref rk, .ref rl, .ref rs, .ref rst, .int (mR M), .int (mVt M), .int (nI (mSu M)), .int (nI (mDn M)), .int (bI (mLz M))]) ∈ w ∧
    (rl, ob 9 [.ref la, .int (lT (mL M)), .int (lV (mL M)), .int (nI (lB (mL M))), .int (lBT (mL M)), .ref sp]) ∈ w := by
  obtain ⟨rn, rk, rl, rs, rst, fn, fk, wl, ws, wst, -, hL, -, -, rfl⟩ := h
  obtain ⟨la, sp, ges, wl, -, -, -, rfl⟩ := hL
  exact ⟨rn, rk, rl, rs, rst, la, sp, List.mem_cons_self, List.mem_cons_of_mem _ (List.mem_cons_of_mem _ (List.mem_cons_of_mem _ (List.mem_append_left _ List.mem_cons_self)))⟩
theorem bSend_le {B : PB} {g : PMg} (h : B.1.length ≤ 30) : (bSend B g).1.length ≤ 30 := by
  unfold bSend
  split
  · rw [List.length_append, List.length_drop, List.length_singleton]; omega
  · rw [List.length_append, List.length_singleton]; omega
theorem toAll_le {f : Nat → PMg} {me : Nat} {B : PB} (h : B.1.length ≤ 30) : ∀ k, (toAll f me B k).1.length ≤ 30 := by
  intro k
  induction k with
  | zero => exact h
  | succ k ih =>
    unfold toAll
    split
    · exact ih
    · exact bSend_le ih
theorem toAll_p {f : Nat → PMg} {me : Nat} {B : PB} {k : Nat} (h : k = me) : toAll f me B (k + 1) = toAll f me B k := if_pos h
theorem toAll_n {f : Nat → PMg} {me : Nat} {B : PB} {k : Nat} (h : ¬ k = me) : toAll f me B (k + 1) = bSend (toAll f me B k) (f k) := if_neg h
theorem sureGo_z {sz : Nat} {M : PM} {n : Nat} (h : n ≤ mSu M) : sureGo sz M n = mSu M := by
  cases n with
  | zero => rfl
  | succ n => unfold sureGo; rw [if_pos h]
theorem sureGo_p {sz : Nat} {M : PM} {n : Nat} (h : mSu M < n) (hm : sz < 2 * kpUp M n sz) (ht : lTmA (mL M) n = lT (mL M)) : sureGo sz M n = n := by
  cases n with
  | zero => omega
  | succ n => unfold sureGo; rw [if_neg (by omega), if_pos ⟨hm, ht⟩]
theorem sureGo_n {sz : Nat} {M : PM} {n : Nat} (h : mSu M < n) (hm : ¬ (sz < 2 * kpUp M n sz ∧ lTmA (mL M) n = lT (mL M))) : sureGo sz M n = sureGo sz M (n - 1) := by
  cases n with
  | zero => omega
  | succ n =>
    conv => lhs; unfold sureGo
    rw [if_neg (by omega), if_neg hm]
    rfl
theorem kpUp_le (M : PM) (n : Nat) : ∀ k, kpUp M n k ≤ k + 1 := by
  intro k
  induction k with
  | zero => exact Nat.le_refl _
  | succ k ih => unfold kpUp; (repeat' split) <;> omega
theorem kp_s {M : PM} {j i : Nat} {fk : Nat → Int32} (h : fk i = nI (mKp M i)) (h1 : i < 100000) (h2 : mN M < 100000) (h3 : mKp M i < 100000) (h4 : j < 100000) : nI (kpUp M j i) + (if nI i = nI (mN M) then 0 else if fk i < nI j then 0 else 1) = nI (kpUp M j (i + 1)) := by
  have e1 : nI i = nI (mN M) ↔ i = mN M := nI_eq (by omega) (by omega)
  have e2 : nI (mKp M i) < nI j ↔ mKp M i < j := nI_ltI (by omega) (by omega)
  rw [h, show kpUp M j (i + 1) = kpUp M j i + (if i = mN M then 0 else if j ≤ mKp M i then 1 else 0) from rfl]
  simp only [e1, e2]
  by_cases c1 : i = mN M
  · rw [if_pos c1, if_pos c1]
    exact Int32.add_zero _
  · rw [if_neg c1, if_neg c1]
    by_cases c2 : mKp M i < j
    · rw [if_pos c2, if_neg (by omega)]
      exact Int32.add_zero _
    · rw [if_neg c2, if_pos (by omega)]
      exact nI_1 _
theorem nI_2 (a : Nat) : (2 : Int32) * nI a = nI (2 * a) := by
  have h : ∀ x : Int32, (2 : Int32) * x = x + x := by
    intro x
    apply Int32.toBitVec_inj.mp
    simp only [Int32.toBitVec_add, Int32.toBitVec_mul]
    generalize x.toBitVec = y
    show (2#32) * y = y + y
    rw [BitVec.mul_comm]
    exact BitVec.mul_two
  rw [h, nI_add, Nat.two_mul]
theorem nI_m1 {a : Nat} (h : 1 ≤ a) : nI a + (-1) = nI (a - 1) := by
  have e : (-1 : Int32) = -(nI 1) := by decide
  rw [e, ← Int32.sub_eq_add_neg, pk_sub h]
theorem el_add {E : EE} {fz : va_W} {la : Nat} {ges : List (Nat × PEn)} {wl w1 : va_W} {q : Nat} {e : PEn} (h : EL E fz la ges wl) (hq : (q, enC e) ∈ fz) (ha : AL E la (ges.map Prod.fst ++ [q]) w1) : EL E fz la (ges ++ [(q, e)]) w1 := by
  refine ⟨by rw [List.map_append]; exact ha, fun g hg => ?_⟩
  rcases List.mem_append.mp hg with h1 | h1
  · exact h.2 g h1
  · rw [List.mem_singleton.mp h1]; exact hq
def ldC (sz : Nat) (v : Int32) : Nat := if isMost sz v then 2 + 4 * sz else 0
def ldS (sz : Nat) (v : Int32) : Nat := if isMost sz v then 132 + 82 * sz else 0
def enOK (nr : Nat) (es : List PEn) : Prop := ∀ e ∈ es, e.2 = (-1) ∨ ∃ j, j < nr ∧ e.2 = nI j
def rqOK (R : List PR) : Prop := R.length ≤ 40 ∧ ∀ r ∈ R, rC r < 4 ∧ rK r < 6 ∧ rY r < 4
/-- what is owed of a machine: b is past all numbers -/
def mOK (sz nr b : Nat) (M : PM) : Prop := (mN M < sz ∧ sz ≤ 5) ∧ (lLast (mL M) ≤ b ∧ lLast (mV M) ≤ b) ∧ (lB (mL M) ≤ mDn M ∧ mDn M ≤ mSu M ∧ mSu M ≤ b ∧ (mSu M = mDn M ∨ mSu M ≤ lLast (mL M))) ∧ (enOK nr (lE (mL M)) ∧ enOK nr (lE (mV M))) ∧
  (∀ k, k < 5 → mNx M k ≤ b + 1 ∧ mKp M k ≤ b) ∧ (mR M = 3 → ∀ k, k < 5 → 1 ≤ mNx M k)
/-- what holds on while the store does what is sure -/
def dInv (M1 : PM) (nr : Nat) (x : PM × List PR) : Prop := (mL x.1 = mL M1 ∧ mSu x.1 = mSu M1 ∧ mV x.1 = mV M1) ∧ (lB (mL M1) ≤ mDn x.1 ∧ mDn x.1 ≤ mSu M1 ∧ (mSu M1 = mDn x.1 ∨ mSu M1 ≤ lLast (mL M1))) ∧ rqOK x.2 ∧ x.2.length = nr
theorem rqAt_nI {R : List PR} {j : Nat} {r : PR} (h : R[j]? = some r) (hj : j < 2 ^ 31) : rqAt R (nI j) = r := by
  unfold rqAt
  rw [nI_clamp hj, h]
  rfl
theorem rqOK_set {R : List PR} {j : Nat} {r r' : PR} (h : rqOK R) (hj : R[j]? = some r) (hr : r'.1 = r.1) : rqOK (R.set j r') := by
  refine ⟨by rw [List.length_set]; exact h.1, fun x hx => ?_⟩
  rcases List.mem_or_eq_of_mem_set hx with h1 | rfl
  · exact h.2 x h1
  · have := h.2 r (List.mem_of_getElem? hj)
    unfold rC rK rY at *
    rw [hr]
    exact this
theorem doEn_inv {M1 : PM} {nr : Nat} {now : Int32} {e : PEn} {x : PM × List PR} (h : dInv M1 nr x) (he : e.2 = (-1) ∨ ∃ j, j < nr ∧ e.2 = nI j) : dInv M1 nr (doEn now e x) := by
  obtain ⟨h1, h2, h3, h4⟩ := h
  unfold doEn
  split
  · exact ⟨h1, h2, h3, h4⟩
  · rename_i hne
    obtain ⟨j, hj, hej⟩ : ∃ j, j < nr ∧ e.2 = nI j := he.resolve_left hne
    have hjl : j < x.2.length := by omega
    have hg : x.2[j]? = some x.2[j] := List.getElem?_eq_getElem hjl
    have hj31 : j < 2 ^ 31 := by have := h3.1; omega
    refine ⟨h1, h2, ?_, ?_⟩
    · show rqOK (if _ then _ else _)
      split
      · rw [hej, rqAt_nI hg hj31, nI_clamp hj31]
        exact rqOK_set h3 hg rfl
      · exact h3
    · show (if _ then _ else _ : List PR).length = nr
      split
      · rw [List.length_set]; exact h4
      · exact h4
theorem enG_at {ges : List (Nat × PEn)} {L : PL} (hges : ges.map Prod.snd = lE L) {n : Nat} {g : Nat × PEn} (hg : ges[n - lB L - 1]? = some g) : enG L n = g.2 := by
  unfold enG
  rw [← hges, List.getElem?_map, hg]
  rfl
theorem en_in {ges : List (Nat × PEn)} {L : PL} (hges : ges.map Prod.snd = lE L) {i : Nat} {g : Nat × PEn} (hg : ges[i]? = some g) : g.2 ∈ lE L := by
  rw [← hges]
  exact List.mem_map.mpr ⟨g, List.mem_of_getElem? hg, rfl⟩
theorem doStep_inv {M1 : PM} {nr : Nat} {now : Int32} {x : PM × List PR} (h : dInv M1 nr x) (hd : mDn x.1 < mSu M1) (he : enOK nr (lE (mL M1))) : dInv M1 nr (doStep now x) := by
  obtain ⟨h1, h2, h3, h4⟩ := h
  have hL : lLast (mL M1) = lB (mL M1) + (lE (mL M1)).length := rfl
  unfold doStep
  refine doEn_inv ⟨h1, ⟨?_, ?_, ?_⟩, h3, h4⟩ ?_
  · show lB (mL M1) ≤ mDn x.1 + 1; omega
  · show mDn x.1 + 1 ≤ mSu M1; omega
  · show mSu M1 = mDn x.1 + 1 ∨ _; omega
  · apply he
    unfold enG
    rw [h1.1]
    obtain ⟨y, hy⟩ := get_ex (l := lE (mL M1)) (i := mDn x.1 + 1 - lB (mL M1) - 1) (by omega)
    rw [hy]
    exact List.mem_of_getElem? hy
theorem doGo_s {now : Int32} {x : PM × List PR} (hd : mDn x.1 < mSu x.1) (h : mSu (doStep now x).1 = mSu x.1) (h2 : mDn (doStep now x).1 = mDn x.1 + 1) : doAll now (doStep now x) = doAll now x := by
  unfold doAll
  rw [h, h2, show mSu x.1 - mDn x.1 = (mSu x.1 - (mDn x.1 + 1)) + 1 by omega]
  rfl
theorem doGo_e {now : Int32} {x : PM × List PR} (hd : mSu x.1 ≤ mDn x.1) : doAll now x = x := by
  unfold doAll
  rw [show mSu x.1 - mDn x.1 = 0 by omega]
  rfl
theorem rl_set {E : EE} {lr : Nat} {wr : va_W} {rr : List (Nat × PR)} {j a : Nat} {r r' : PR} (hj : rr[j]? = some (a, r)) (hA : AL E lr (rr.map Prod.fst) wr) : RL E lr ((rr.map Prod.snd).set j r') wr (RS E (rr.take j) ++ ([(a, rqC E r')] ++ RS E (rr.drop (j + 1)))) := by
  obtain ⟨hl, e⟩ := List.getElem?_eq_some_iff.mp hj
  refine ⟨rr.set j (a, r'), List.map_set, ?_, rs_set hl⟩
  rw [List.map_set, show (rr.map Prod.fst).set j (a, r').1 = rr.map Prod.fst from ?_]
  · exact hA
  · apply List.ext_getElem?
    intro i
    rw [List.getElem?_set]
    by_cases hi : j = i
    · subst hi
      rw [if_pos rfl, List.getElem?_map, hj, if_pos (by rw [List.length_map]; exact hl)]
      rfl
    · rw [if_neg hi]
theorem doStep_Su {now : Int32} {x : PM × List PR} : mSu (doStep now x).1 = mSu x.1 ∧ mDn (doStep now x).1 = mDn x.1 + 1 ∧ mR (doStep now x).1 = mR x.1 := by
  unfold doStep doEn
  split <;> exact ⟨rfl, rfl, rfl⟩
abbrev en2 (q : Nat) (t r : Int32) : Nat × PEn := (q, (t, r))
abbrev en3 (M : PM) (R : List PR) : PM × List PR := (M, R)
theorem doStep_Lz {now : Int32} {x : PM × List PR} : mLz (doStep now x).1 = mLz x.1 := by
  unfold doStep doEn
  split <;> rfl
theorem sureGo_b {sz : Nat} {M : PM} : ∀ n, mSu M ≤ sureGo sz M n ∧ (sureGo sz M n = mSu M ∨ sureGo sz M n ≤ n) := by
  intro n
  induction n with
  | zero => exact ⟨Nat.le_refl _, Or.inl rfl⟩
  | succ n ih =>
    unfold sureGo
    split
    · exact ⟨Nat.le_refl _, Or.inl rfl⟩
    · split
      · exact ⟨by omega, Or.inr (Nat.le_refl _)⟩
      · exact ⟨ih.1, ih.2.elim Or.inl (fun h => Or.inr (by omega))⟩
theorem sureOf_f {sz : Nat} {M : PM} : mL (sureOf sz M) = mL M ∧ mV (sureOf sz M) = mV M ∧ mDn (sureOf sz M) = mDn M ∧ mR (sureOf sz M) = mR M := by
  unfold sureOf
  split <;> exact ⟨rfl, rfl, rfl, rfl⟩
theorem sureOf_su {sz : Nat} {M : PM} : mSu M ≤ mSu (sureOf sz M) ∧ (mSu (sureOf sz M) = mSu M ∨ mSu (sureOf sz M) ≤ lLast (mL M)) := by
  unfold sureOf
  split
  · exact sureGo_b _
  · exact ⟨Nat.le_refl _, Or.inl rfl⟩
theorem sureOf_inv {sz b : Nat} {M : PM} {R : List PR} (h : mOK sz R.length b M) (hr : rqOK R) : dInv (sureOf sz M) R.length (en3 (sureOf sz M) R) ∧ enOK R.length (lE (mL (sureOf sz M))) := by
  obtain ⟨⟨o1, o2⟩, ⟨o3, o4⟩, ⟨o5, o6, o7, o8⟩, ⟨o9, o10⟩, o11, o12⟩ := h
  obtain ⟨f1, f2, f3, f4⟩ := sureOf_f (sz := sz) (M := M)
  obtain ⟨s1, s2⟩ := sureOf_su (sz := sz) (M := M)
  refine ⟨⟨⟨rfl, rfl, rfl⟩, ⟨?_, ?_, ?_⟩, hr, rfl⟩, ?_⟩
  · show lB (mL (sureOf sz M)) ≤ mDn (sureOf sz M); rw [f1, f3]; omega
  · show mDn (sureOf sz M) ≤ mSu (sureOf sz M); rw [f3]; omega
  · show mSu (sureOf sz M) = mDn (sureOf sz M) ∨ _; rw [f1, f3]; omega
  · rw [f1]; exact o9
theorem sureOf_b {sz b nr : Nat} {M : PM} (h : mOK sz nr b M) : lLast (mL (sureOf sz M)) ≤ b ∧ mSu (sureOf sz M) ≤ b ∧ lB (mL (sureOf sz M)) ≤ mDn (sureOf sz M) := by
  obtain ⟨⟨o1, o2⟩, ⟨o3, o4⟩, ⟨o5, o6, o7, o8⟩, -⟩ := h
  obtain ⟨f1, f2, f3, f4⟩ := sureOf_f (sz := sz) (M := M)
  obtain ⟨s1, s2⟩ := sureOf_su (sz := sz) (M := M)
  rw [f1, f3]
  omega
theorem ldC_le {sz : Nat} {v : Int32} (h : sz ≤ 5) : ldC sz v ≤ 22 ∧ ldS sz v ≤ 542 := by
  unfold ldC ldS
  constructor <;> split <;> omega
theorem enOK_add {nr : Nat} {es : List PEn} {e : PEn} (h : enOK nr es) (he : e.2 = (-1) ∨ ∃ j, j < nr ∧ e.2 = nI j) : enOK nr (es ++ [e]) := by
  intro x hx
  rcases List.mem_append.mp hx with h1 | h1
  · exact h x h1
  · rw [List.mem_singleton.mp h1]; exact he
theorem mOK_lead {sz nr b : Nat} {M : PM} (h : mOK sz nr b M) : mOK sz nr (b + 1) (mLead M) := by
  obtain ⟨⟨o1, o2⟩, ⟨o3, o4⟩, ⟨o5, o6, o7, o8⟩, ⟨o9, o10⟩, o11, o12⟩ := h
  have hl : lLast (mL (mLead M)) = lLast (mL M) + 1 := by
    show lB (mL M) + (lE (mL M) ++ [_]).length = _
    rw [List.length_append, List.length_singleton]; rfl
  refine ⟨⟨o1, o2⟩, ⟨by omega, ?_⟩, ⟨o5, o6, ?_, ?_⟩, ⟨enOK_add o9 (Or.inl rfl), o10⟩, fun k hk => ⟨?_, ?_⟩, fun _ k hk => ?_⟩
  · show lLast (mV M) ≤ b + 1; omega
  · show mSu M ≤ b + 1; omega
  · show mSu M = mDn M ∨ mSu M ≤ lLast (mL (mLead M)); omega
  · show lLast (mL M) + 1 ≤ b + 1 + 1; omega
  · show 0 ≤ b + 1; omega
  · show 1 ≤ lLast (mL M) + 1; omega
theorem mOK_up {sz nr b c : Nat} {M : PM} (h : mOK sz nr b M) (hc : b ≤ c) : mOK sz nr c M := by
  obtain ⟨⟨o1, o2⟩, ⟨o3, o4⟩, ⟨o5, o6, o7, o8⟩, ⟨o9, o10⟩, o11, o12⟩ := h
  exact ⟨⟨o1, o2⟩, ⟨by omega, by omega⟩, ⟨o5, o6, by omega, o8⟩, ⟨o9, o10⟩, fun k hk => by have := o11 k hk; omega, o12⟩
theorem mOK_cand {sz nr b : Nat} {M : PM} (h : mOK sz nr b M) : mOK sz nr b (mCand M) := by
  obtain ⟨⟨o1, o2⟩, ⟨o3, o4⟩, ⟨o5, o6, o7, o8⟩, ⟨o9, o10⟩, o11, o12⟩ := h
  exact ⟨⟨o1, o2⟩, ⟨o3, o4⟩, ⟨o5, o6, o7, o8⟩, ⟨o9, o10⟩, o11, fun h => absurd h (by show ¬ (2 : Int32) = 3; decide)⟩
theorem leadIf_ok {sz nr b : Nat} {M : PM} {B : PB} (h : mOK sz nr b M) : mOK sz nr (b + 1) (leadIf sz M B).1 := by
  unfold leadIf
  split
  · exact mOK_lead h
  · exact mOK_up h (by omega)
theorem standIf_ok {sz nr b : Nat} {M : PM} {B : PB} (h : mOK sz nr b M) : mOK sz nr (b + 1) (standIf sz M B).1 := leadIf_ok (mOK_cand h)
theorem fl_le33 {n : Nat} (h : n ≤ 33) : fl_mc n ≤ 4 ∧ fl_ms n ≤ 80 := by
  unfold fl_mc fl_ms
  constructor <;> (repeat' split) <;> omega
