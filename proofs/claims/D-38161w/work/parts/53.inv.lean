/-! what stays: machines, messages, requests in their bounds -/
theorem gOK_up {sz nr b c : Nat} {g : PMg} (h : gOK sz nr b g) (hc : b ≤ c) : gOK sz nr c g := ⟨h.1, ⟨by have := h.2.1.1; omega, by have := h.2.1.2; omega⟩, h.2.2⟩
theorem enOK_nil {nr : Nat} : enOK nr [] := fun e he => absurd he List.not_mem_nil
theorem mkA_ok {sz nr b w to n : Nat} {M : PM} {y : Bool} (hw : w < 5) (h1 : mN M < sz) (h2 : to < sz) (h3 : n ≤ b) : gOK sz nr b (mkA w M to y n) := ⟨⟨hw, h1, h2⟩, ⟨by show n + 0 ≤ b; omega, by show 0 ≤ b; omega⟩, enOK_nil, by show 0 ≤ 2; omega⟩
theorem mk0_ok {sz nr b w to n : Nat} {M : PM} {it : Int32} (hw : w < 5) (h1 : mN M < sz) (h2 : to < sz) (h3 : n ≤ b) : gOK sz nr b (mk0 w M to n it) := ⟨⟨hw, h1, h2⟩, ⟨by show n + 0 ≤ b; omega, by show 0 ≤ b; omega⟩, enOK_nil, by show 0 ≤ 2; omega⟩
theorem mMore_ok {sz nr b to : Nat} {M : PM} (h : mOK sz nr b M) (hx : 1 ≤ mNx M to) (h2 : to < sz) : gOK sz nr b (mMore M to) := by
  obtain ⟨⟨o1, o2⟩, ⟨o3, o4⟩, ⟨o5, o6, o7, o8⟩, ⟨o9, o10⟩, o11, o12⟩ := h
  have hll : lLast (mL M) = lB (mL M) + (lE (mL M)).length := rfl
  unfold mMore
  split
  · exact mk0_ok (by omega) o1 h2 (by omega)
  · have hn : mNext M to = min (mNx M to) (lLast (mL M) + 1) := rfl
    refine ⟨⟨by show 2 < 5; omega, o1, h2⟩, ⟨?_, ?_⟩, ?_, List.length_take_le _ _⟩
    · show mNext M to - 1 + (((lE (mL M)).drop (mNext M to - lB (mL M) - 1)).take 2).length ≤ b
      rw [List.length_take, List.length_drop]
      omega
    · show mSu M ≤ b; omega
    · intro e he
      exact o9 e (List.mem_of_mem_drop (List.mem_of_mem_take he))
theorem bSend_ok {sz nr b : Nat} {B : PB} {g : PMg} (h : ∀ x ∈ B.1, gOK sz nr b x) (hg : gOK sz nr b g) : ∀ x ∈ (bSend B g).1, gOK sz nr b x := by
  intro x hx
  unfold bSend at hx
  split at hx
  · rcases List.mem_append.mp hx with h1 | h1
    · exact h x (List.mem_of_mem_drop h1)
    · rw [List.mem_singleton.mp h1]; exact hg
  · rcases List.mem_append.mp hx with h1 | h1
    · exact h x h1
    · rw [List.mem_singleton.mp h1]; exact hg
theorem toAll_ok {sz nr b me : Nat} {f : Nat → PMg} {B : PB} (h : ∀ x ∈ B.1, gOK sz nr b x) : ∀ k, (∀ j, j < k → gOK sz nr b (f j)) → ∀ x ∈ (toAll f me B k).1, gOK sz nr b x := by
  intro k
  induction k with
  | zero => exact fun _ => h
  | succ k ih =>
    intro hf
    unfold toAll
    split
    · exact ih (fun j hj => hf j (by omega))
    · exact bSend_ok (ih (fun j hj => hf j (by omega))) (hf k (by omega))
/-- what is owed of a machine and the messages together -/
def xOK (sz nr b : Nat) (x : PM × PB) : Prop := mOK sz nr b x.1 ∧ x.2.1.length ≤ 30 ∧ ∀ g ∈ x.2.1, gOK sz nr b g
theorem xOK_up {sz nr b c : Nat} {x : PM × PB} (h : xOK sz nr b x) (hc : b ≤ c) : xOK sz nr c x := ⟨mOK_up h.1 hc, h.2.1, fun g hg => gOK_up (h.2.2 g hg) hc⟩
theorem beat_xok {sz nr b : Nat} {M : PM} {B : PB} (h : xOK sz nr b (M, B)) (hx : ∀ k, k < 5 → 1 ≤ mNx M k) : xOK sz nr b (M, beatAll sz M B) :=
  ⟨h.1, toAll_le h.2.1 _, toAll_ok h.2.2 _ (fun j hj => mMore_ok h.1 (hx j (by have := h.1.1.2; omega)) hj)⟩
def ldN (sz : Nat) (v : Int32) : Nat := if isMost sz v then 1 else 0
theorem leadIf_xok {sz nr b : Nat} {M : PM} {B : PB} (h : xOK sz nr b (M, B)) : xOK sz nr (b + ldN sz (mVt M)) (leadIf sz M B) := by
  unfold leadIf ldN
  split
  · exact beat_xok ⟨mOK_lead h.1, h.2.1, fun g hg => gOK_up (h.2.2 g hg) (by omega)⟩ (fun k _ => by show 1 ≤ lLast (mL M) + 1; omega)
  · exact h
theorem stand_xok {sz nr b : Nat} {M : PM} {B : PB} (h : xOK sz nr b (M, B)) : xOK sz nr (b + ldN sz (mVt (mCand M))) (standIf sz M B) :=
  leadIf_xok ⟨mOK_cand h.1, toAll_le h.2.1 _, toAll_ok h.2.2 _ (fun j hj => mk0_ok (by omega) h.1.1.1 hj h.1.2.1.1)⟩
theorem meet_ok {sz nr b : Nat} {M : PM} {t : Int32} (h : mOK sz nr b M) : mOK sz nr b (mMeet M t) := by
  obtain ⟨⟨o1, o2⟩, ⟨o3, o4⟩, ⟨o5, o6, o7, o8⟩, ⟨o9, o10⟩, o11, o12⟩ := h
  unfold mMeet
  split
  · exact ⟨⟨o1, o2⟩, ⟨o3, o4⟩, ⟨o5, o6, o7, o8⟩, ⟨o9, o10⟩, o11, fun z => absurd z (by show ¬ (1 : Int32) = 3; decide)⟩
  · exact ⟨⟨o1, o2⟩, ⟨o3, o4⟩, ⟨o5, o6, o7, o8⟩, ⟨o9, o10⟩, o11, o12⟩
theorem back_ok {sz nr b : Nat} {M : PM} (h : mOK sz nr b M) : mOK sz nr b (mBack M) := by
  obtain ⟨⟨o1, o2⟩, ⟨o3, o4⟩, ⟨o5, o6, o7, o8⟩, ⟨o9, o10⟩, o11, o12⟩ := h
  unfold mBack
  split
  · exact ⟨⟨o1, o2⟩, ⟨o3, o4⟩, ⟨o5, o6, o7, o8⟩, ⟨o9, o10⟩, o11, fun z => absurd z (by show ¬ (1 : Int32) = 3; decide)⟩
  · exact ⟨⟨o1, o2⟩, ⟨o3, o4⟩, ⟨o5, o6, o7, o8⟩, ⟨o9, o10⟩, o11, o12⟩
theorem ask_xok {sz nr b : Nat} {M : PM} {B : PB} {g : PMg} (h : xOK sz nr b (M, B)) (hg : gOK sz nr b g) : xOK sz nr b (pAsk M B g) :=
  ⟨h.1, bSend_le h.2.1, bSend_ok h.2.2 (mkA_ok (by omega) h.1.1.1 hg.1.2.1 (Nat.zero_le _))⟩
theorem has_ok {sz nr b : Nat} {M : PM} {g : PMg} (h : mOK sz nr b M) (hg : gOK sz nr b g) : mOK sz nr b (pHas M g) := by
  obtain ⟨⟨o1, o2⟩, ⟨o3, o4⟩, ⟨o5, o6, o7, o8⟩, ⟨o9, o10⟩, o11, o12⟩ := h
  have hgn := hg.2.1.1
  have hf : gF g < 5 := by have := hg.1.2.1; omega
  have h5 := o11 _ hf
  unfold pHas
  split
  · refine ⟨⟨o1, o2⟩, ⟨o3, o4⟩, ⟨o5, o6, o7, o8⟩, ⟨o9, o10⟩, fun k hk => ?_, fun hr k hk => ?_⟩
    · have := o11 k hk
      constructor
      · show (if k = gF g then _ else _ : Nat) ≤ b + 1
        split <;> omega
      · show (if k = gF g then _ else _ : Nat) ≤ b
        split <;> omega
    · show 1 ≤ (if k = gF g then _ else _ : Nat)
      have := o12 hr k hk
      split <;> omega
  · refine ⟨⟨o1, o2⟩, ⟨o3, o4⟩, ⟨o5, o6, o7, o8⟩, ⟨o9, o10⟩, fun k hk => ?_, fun hr k hk => ?_⟩
    · have := o11 k hk
      constructor
      · show (if k = gF g then _ else _ : Nat) ≤ b + 1
        split <;> omega
      · exact this.2
    · show 1 ≤ (if k = gF g then _ else _ : Nat)
      have := o12 hr k hk
      split <;> omega
theorem snap_xok {sz nr b : Nat} {M : PM} {B : PB} {g : PMg} (h : xOK sz nr b (M, B)) (hg : gOK sz nr b g) : xOK sz nr b (pSnap M B g) := by
  have hgn := hg.2.1.1
  obtain ⟨hm0, h2, h3⟩ := h
  have hm1 : mOK sz nr b M := hm0
  obtain ⟨⟨o1, o2⟩, ⟨o3, o4⟩, ⟨o5, o6, o7, o8⟩, ⟨o9, o10⟩, o11, o12⟩ := hm1
  have hm : mOK sz nr b (mSnap M g) := by
    unfold mSnap
    split
    · refine ⟨⟨o1, o2⟩, ⟨?_, o4⟩, ⟨?_, ?_, ?_, ?_⟩, ⟨enOK_nil, o10⟩, o11, o12⟩
      · show gN g + 0 ≤ b; omega
      · show gN g ≤ gN g; omega
      · show gN g ≤ gN g; omega
      · show gN g ≤ b; omega
      · exact Or.inl rfl
    · exact ⟨⟨o1, o2⟩, ⟨o3, o4⟩, ⟨o5, o6, o7, o8⟩, ⟨o9, o10⟩, o11, o12⟩
  exact ⟨hm, bSend_le h2, bSend_ok h3 (mkA_ok (by omega) hm.1.1 hg.1.2.1 (by omega))⟩
theorem tkStep_en {nr b n : Nat} {es : List PEn} {e : PEn} (h : enOK nr es) (he : e.2 = (-1) ∨ ∃ j, j < nr ∧ e.2 = nI j) : enOK nr (tkStep b es n e) := by
  have hc : enOK nr (tkCut b es n e) := by
    unfold tkCut
    split
    · exact fun x hx => h x (List.mem_of_mem_take hx)
    · exact h
  unfold tkStep
  split
  · exact h
  · unfold tkAdd
    split
    · exact hc
    · exact enOK_add hc he
theorem tkUp_en {nr b a : Nat} {es en : List PEn} (h : enOK nr es) (hn : enOK nr en) : ∀ i, i ≤ en.length → enOK nr (tkUp b es a en i) := by
  intro i
  induction i with
  | zero => exact fun _ => h
  | succ i ih =>
    intro hi
    refine tkStep_en (ih (by omega)) ?_
    obtain ⟨e, he⟩ := get_ex (l := en) (i := i) (by omega)
    rw [he]
    exact hn e (List.mem_of_getElem? he)
theorem take_xok {sz nr b : Nat} {M : PM} {B : PB} {g : PMg} (h : xOK sz nr b (M, B)) (hg : gOK sz nr b g) (hr : mSu M = mDn M) : xOK sz nr b (pTake M B g) := by
  have hgn := hg.2.1.1
  have hgs := hg.2.1.2
  obtain ⟨hm0, h2, h3⟩ := h
  have hm1 : mOK sz nr b M := hm0
  obtain ⟨⟨o1, o2⟩, ⟨o3, o4⟩, ⟨o5, o6, o7, o8⟩, ⟨o9, o10⟩, o11, o12⟩ := hm1
  unfold pTake
  split
  · refine ⟨⟨⟨o1, o2⟩, ⟨o3, o4⟩, ⟨o5, o6, o7, o8⟩, ⟨o9, o10⟩, o11, o12⟩, bSend_le h2, bSend_ok h3 (mkA_ok (by omega) o1 hg.1.2.1 ?_)⟩
    omega
  · rename_i hnt
    have ha : gN g ≤ lLast (mL M) := Nat.not_lt.mp (fun z => hnt (Or.inl z))
    have hu := tkUp_le (b := lB (mL M)) (es := lE (mL M)) (a := gN g) (en := gE g) ha (gE g).length
    have hll : lLast (mL M) = lB (mL M) + (lE (mL M)).length := rfl
    have hL : lLast (mL (mTake M g)) = lB (mL M) + (tkUp (lB (mL M)) (lE (mL M)) (gN g) (gE g) (gE g).length).length := rfl
    have hS : mSu (mTake M g) = max (mSu M) (min (gN g + (gE g).length) (gS g)) := rfl
    have hD : mDn (mTake M g) = mDn M := rfl
    refine ⟨⟨⟨o1, o2⟩, ⟨by rw [hL]; omega, o4⟩, ⟨o5, by rw [hS, hD]; omega, by rw [hS]; omega, ?_⟩, ⟨tkUp_en o9 hg.2.2.1 _ (Nat.le_refl _), o10⟩, o11, o12⟩, bSend_le h2, bSend_ok h3 (mkA_ok (by omega) o1 hg.1.2.1 hgn)⟩
    rw [hS, hD, hL]
    omega
theorem follow_xok {sz nr b : Nat} {M : PM} {B : PB} {g : PMg} (h : xOK sz nr b (M, B)) (hg : gOK sz nr b g) (hr : mSu M = mDn M) : xOK sz nr b (pFollow M B g) := by
  unfold pFollow
  split
  · exact ⟨h.1, bSend_le h.2.1, bSend_ok h.2.2 (mkA_ok (by omega) h.1.1.1 hg.1.2.1 (Nat.zero_le _))⟩
  · have hb : xOK sz nr b (mBack M, B) := ⟨back_ok h.1, h.2⟩
    split
    · exact snap_xok hb hg
    · exact take_xok hb hg (by unfold mBack; split <;> exact hr)
theorem msg_xok {sz nr b : Nat} {M : PM} {B : PB} {g : PMg} (h : xOK sz nr b (M, B)) (hg : gOK sz nr b g) (hr : mSu M = mDn M) : xOK sz nr (b + mLeads sz M g) (pMsg sz M B g) := by
  unfold pMsg
  split
  · exact xOK_up (ask_xok h hg) (by omega)
  · split
    · rename_i h0 h1
      by_cases h2 : gY g = true ∧ mR M = 2 ∧ gTm g = lT (mL M)
      · rw [show pVote sz M B g = leadIf sz (mVote M g) B from if_pos h2]
        have hv : xOK sz nr b (mVote M g, B) := by
          have hm : mOK sz nr b M := h.1
          obtain ⟨⟨o1, o2⟩, ⟨o3, o4⟩, ⟨o5, o6, o7, o8⟩, ⟨o9, o10⟩, o11, o12⟩ := hm
          exact ⟨⟨⟨o1, o2⟩, ⟨o3, o4⟩, ⟨o5, o6, o7, o8⟩, ⟨o9, o10⟩, o11, o12⟩, h.2⟩
        refine xOK_up (leadIf_xok hv) ?_
        unfold ldN mLeads
        by_cases c : isMost sz (mVt (mVote M g))
        · rw [if_pos c, if_pos ⟨h1, h2, c⟩]; exact Nat.le_refl _
        · rw [if_neg c]; omega
      · rw [show pVote sz M B g = (M, B) from if_neg h2]
        exact xOK_up h (by omega)
    · split
      · unfold pHasIf
        split
        · exact xOK_up ⟨has_ok h.1 hg, h.2⟩ (by omega)
        · exact xOK_up h (by omega)
      · exact xOK_up (follow_xok h hg hr) (by omega)
theorem doGo_inv {M1 : PM} {nr : Nat} {now : Int32} (he : enOK nr (lE (mL M1))) : ∀ (n : Nat) (x : PM × List PR), dInv M1 nr x → n ≤ mSu M1 - mDn x.1 → dInv M1 nr (doGo now n x) := by
  intro n
  induction n with
  | zero => exact fun x h _ => h
  | succ n ih =>
    intro x h hn
    exact ih _ (doStep_inv h (by omega) he) (by rw [doStep_Su.2.1]; omega)
theorem doGo_f {now : Int32} : ∀ (n : Nat) (x : PM × List PR), (doGo now n x).1.1 = x.1.1 ∧ mR (doGo now n x).1 = mR x.1 ∧ mVt (doGo now n x).1 = mVt x.1 ∧ mLz (doGo now n x).1 = mLz x.1 := by
  intro n
  induction n with
  | zero => exact fun x => ⟨rfl, rfl, rfl, rfl⟩
  | succ n ih =>
    intro x
    have h := ih (doStep now x)
    have hs : (doStep now x).1.1 = x.1.1 ∧ mR (doStep now x).1 = mR x.1 ∧ mVt (doStep now x).1 = mVt x.1 ∧ mLz (doStep now x).1 = mLz x.1 := by
      unfold doStep doEn
      split <;> exact ⟨rfl, rfl, rfl, rfl⟩
    exact ⟨h.1.trans hs.1, h.2.1.trans hs.2.1, h.2.2.1.trans hs.2.2.1, h.2.2.2.trans hs.2.2.2⟩
theorem doGo_d {now : Int32} : ∀ (n : Nat) (x : PM × List PR), mDn (doGo now n x).1 = mDn x.1 + n := by
  intro n
  induction n with
  | zero => exact fun x => rfl
  | succ n ih =>
    intro x
    have h := ih (doStep now x)
    rw [doStep_Su.2.1] at h
    show mDn (doGo now n (doStep now x)).1 = _
    rw [h]; omega
theorem sureOf_g {sz : Nat} {M : PM} : (sureOf sz M).1 = M.1 ∧ mVt (sureOf sz M) = mVt M ∧ mLz (sureOf sz M) = mLz M := by
  unfold sureOf
  split <;> exact ⟨rfl, rfl, rfl⟩
theorem settle_ok {sz b : Nat} {now : Int32} {M : PM} {R : List PR} (h : mOK sz R.length b M) (hr : rqOK R) : mOK sz R.length b (settle sz now M R).1 ∧ (settle sz now M R).1.1 = M.1 ∧ mR (settle sz now M R).1 = mR M ∧ rqOK (settle sz now M R).2 ∧ (settle sz now M R).2.length = R.length ∧ mSu (settle sz now M R).1 = mDn (settle sz now M R).1 := by
  obtain ⟨hi, hen⟩ := sureOf_inv h hr
  have hd := doGo_inv (now := now) hen (mSu (sureOf sz M) - mDn (sureOf sz M)) (sureOf sz M, R) hi (Nat.le_refl _)
  have hf := doGo_f (now := now) (mSu (sureOf sz M) - mDn (sureOf sz M)) (sureOf sz M, R)
  have hg := sureOf_g (sz := sz) (M := M)
  have hdn := doGo_d (now := now) (mSu (sureOf sz M) - mDn (sureOf sz M)) (sureOf sz M, R)
  have hdd : mDn (sureOf sz M) ≤ mSu (sureOf sz M) := hi.2.1.2.1
  have hs := sureOf_f (sz := sz) (M := M)
  have hu := sureOf_b h
  obtain ⟨⟨o1, o2⟩, ⟨o3, o4⟩, ⟨o5, o6, o7, o8⟩, ⟨o9, o10⟩, o11, o12⟩ := h
  unfold settle doAll
  generalize doGo now (mSu (sureOf sz M) - mDn (sureOf sz M)) (sureOf sz M, R) = x at hd hf hdn
  obtain ⟨⟨i1, i2, i3⟩, ⟨i4, i5, i6⟩, i7, i8⟩ := hd
  have f1 : x.1.1 = M.1 := hf.1.trans hg.1
  have f2 : mR x.1 = mR M := hf.2.1.trans hs.2.2.2
  have hm : mOK sz R.length b x.1 := by
    refine ⟨⟨by show x.1.1.1 < sz; rw [f1]; exact o1, o2⟩, ⟨by rw [i1, hs.1]; exact o3, by rw [i3, hs.2.1]; exact o4⟩, ⟨by rw [i1]; omega, by rw [i2]; omega, by rw [i2]; omega, by rw [i1, i2]; exact i6⟩, ⟨by rw [i1]; exact hen, by rw [i3, hs.2.1]; exact o10⟩, ?_, ?_⟩
    · show ∀ k, k < 5 → x.1.1.2.1 k ≤ b + 1 ∧ x.1.1.2.2 k ≤ b
      rw [f1]; exact o11
    · rw [f2]
      show mR M = 3 → ∀ k, k < 5 → 1 ≤ x.1.1.2.1 k
      rw [f1]; exact o12
  have hsv : mOK sz R.length b (mSave x.1) ∧ (mSave x.1).1 = x.1.1 ∧ mR (mSave x.1) = mR x.1 ∧ mSu (mSave x.1) = mSu x.1 ∧ mDn (mSave x.1) = mDn x.1 := by
    unfold mSave
    split
    · exact ⟨hm, rfl, rfl, rfl, rfl⟩
    · obtain ⟨p1, ⟨p3, p4⟩, p5, ⟨p9, p10⟩, p11⟩ := hm
      exact ⟨⟨p1, ⟨p3, p3⟩, p5, ⟨p9, p9⟩, p11⟩, rfl, rfl, rfl, rfl⟩
  refine ⟨hsv.1, hsv.2.1.trans f1, hsv.2.2.1.trans f2, i7, i8, ?_⟩
  show mSu (mSave x.1) = mDn (mSave x.1)
  rw [hsv.2.2.2.1, hsv.2.2.2.2, i2, hdn]
  show mSu (sureOf sz M) = mDn (sureOf sz M) + (mSu (sureOf sz M) - mDn (sureOf sz M))
  omega
/-- what is owed of a net -/
def nOK (b : Nat) (P : PN) : Prop := (nM P).length ≤ 5 ∧ (nB P).length ≤ 30 ∧ rqOK (nR P) ∧ (∀ k M, (nM P)[k]? = some M → mOK (nM P).length (nR P).length b M ∧ mN M = k ∧ mSu M = mDn M) ∧ (∀ g ∈ nB P, gOK (nM P).length (nR P).length b g)
theorem mAt_get {P : PN} {k : Nat} {M : PM} (h : (nM P)[k]? = some M) : mAt P k = M := by
  unfold mAt
  rw [h]
  rfl
theorem nOK_up {b c : Nat} {P : PN} (h : nOK b P) (hc : b ≤ c) : nOK c P := ⟨h.1, h.2.1, h.2.2.1, fun k M hk => ⟨mOK_up (h.2.2.2.1 k M hk).1 hc, (h.2.2.2.1 k M hk).2⟩, fun g hg => gOK_up (h.2.2.2.2 g hg) hc⟩
theorem nPut_ok {b c k : Nat} {P : PN} {x : PM × PB} {M : PM} (h : nOK b P) (hk : (nM P)[k]? = some M) (hx : xOK (nM P).length (nR P).length c x) (hc : b ≤ c) (hn : mN x.1 = k) : nOK c (nPut P k x) := by
  obtain ⟨h1, h2, h3, h4, h5⟩ := h
  obtain ⟨s1, s2, s3, s4, s5, s6⟩ := settle_ok (now := nNow P) hx.1 h3
  refine ⟨?_, hx.2.1, s4, ?_, ?_⟩
  · show ((nM P).set k _).length ≤ 5
    rw [List.length_set]; exact h1
  · intro j M1 hj
    have hl : (nM (nPut P k x)).length = (nM P).length := List.length_set
    have hl2 : (nR (nPut P k x)).length = (nR P).length := s5
    rw [hl, hl2]
    have hj2 : ((nM P).set k (settle (nM P).length (nNow P) x.1 (nR P)).1)[j]? = some M1 := hj
    rw [List.getElem?_set] at hj2
    split at hj2
    · rename_i e
      subst e
      split at hj2
      · cases hj2
        exact ⟨s1, by show (settle _ _ _ _).1.1.1 = k; rw [s2]; exact hn, s6⟩
      · cases hj2
    · exact ⟨mOK_up (h4 j M1 hj2).1 hc, (h4 j M1 hj2).2⟩
  · intro g hg
    have hl : (nM (nPut P k x)).length = (nM P).length := List.length_set
    have hl2 : (nR (nPut P k x)).length = (nR P).length := s5
    rw [hl, hl2]
    exact hx.2.2 g hg
