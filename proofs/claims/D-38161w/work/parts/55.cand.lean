/-! candidates: how often a machine can come to lead -/
def cd (M : PM) : Nat := if mR M = 2 then 1 else 0
def candN (Ms : List PM) : Nat := (Ms.map cd).sum
theorem sum_set {α : Type} {f : α → Nat} {x y : α} : ∀ {l : List α} {k : Nat}, l[k]? = some x → ((l.set k y).map f).sum + f x = (l.map f).sum + f y := by
  intro l
  induction l with
  | nil => intro k h; cases h
  | cons a l ih =>
    intro k h
    cases k with
    | zero =>
      cases h
      simp only [List.set_cons_zero, List.map_cons, List.sum_cons]
      omega
    | succ k =>
      have := ih (k := k) (by simpa using h)
      simp only [List.set_cons_succ, List.map_cons, List.sum_cons]
      omega
theorem candN_le (Ms : List PM) : candN Ms ≤ Ms.length := by
  unfold candN
  induction Ms with
  | nil => exact Nat.le_refl _
  | cons a l ih =>
    simp only [List.map_cons, List.sum_cons, List.length_cons]
    have : cd a ≤ 1 := by unfold cd; split <;> omega
    omega
theorem cd_of {M M1 : PM} (h : mR M1 = mR M) : cd M1 = cd M := by unfold cd; rw [h]
theorem cd_0 {M : PM} (h : ¬ mR M = 2) : cd M = 0 := if_neg h
theorem cd_1 {M : PM} (h : mR M = 2) : cd M = 1 := if_pos h
theorem meet_cd {M : PM} {t : Int32} : cd (mMeet M t) ≤ cd M := by
  unfold mMeet
  split
  · rw [cd_0 (by show ¬ (1 : Int32) = 2; decide)]; exact Nat.zero_le _
  · exact Nat.le_refl _
theorem back_cd {M : PM} : cd (mBack M) ≤ cd M := by
  unfold mBack
  split
  · rw [cd_0 (by show ¬ (1 : Int32) = 2; decide)]; exact Nat.zero_le _
  · exact Nat.le_refl _
theorem leadIf_cd {sz : Nat} {M : PM} {B : PB} (h : mR M = 2) : cd (leadIf sz M B).1 + ldN sz (mVt M) ≤ cd M := by
  unfold leadIf ldN
  split
  · show cd (mLead M) + 1 ≤ cd M
    rw [cd_0 (by show ¬ (3 : Int32) = 2; decide), cd_1 h]
    exact Nat.le_refl _
  · exact Nat.le_refl _
theorem snap_cd {M : PM} {g : PMg} : cd (mSnap M g) = cd M := by
  unfold mSnap
  split <;> exact cd_of rfl
theorem take_cd {M : PM} {B : PB} {g : PMg} : cd (pTake M B g).1 = cd M := by
  unfold pTake
  split <;> exact cd_of rfl
theorem follow_cd {M : PM} {B : PB} {g : PMg} : cd (pFollow M B g).1 ≤ cd M := by
  unfold pFollow
  split
  · exact Nat.le_refl _
  · split
    · show cd (mSnap (mBack M) g) ≤ cd M
      rw [snap_cd]; exact back_cd
    · rw [take_cd]; exact back_cd
theorem msg_cd {sz : Nat} {M : PM} {B : PB} {g : PMg} : cd (pMsg sz M B g).1 + mLeads sz M g ≤ cd M := by
  have h0 : ∀ h : ¬ (gW g = 1 ∧ (gY g = true ∧ mR M = 2 ∧ gTm g = lT (mL M)) ∧ isMost sz (mVt (mVote M g))), mLeads sz M g = 0 := fun h => if_neg h
  unfold pMsg
  by_cases c0 : gW g = 0
  · rw [if_pos c0, h0 (fun z => by omega)]
    exact Nat.le_of_eq (cd_of rfl)
  rw [if_neg c0]
  by_cases c1 : gW g = 1
  · rw [if_pos c1]
    by_cases h2 : gY g = true ∧ mR M = 2 ∧ gTm g = lT (mL M)
    · rw [show pVote sz M B g = leadIf sz (mVote M g) B from if_pos h2, mLeads_v c1 h2]
      exact leadIf_cd (M := mVote M g) h2.2.1
    · rw [show pVote sz M B g = (M, B) from if_neg h2, h0 (fun z => h2 z.2.1)]
      exact Nat.le_refl _
  rw [if_neg c1, h0 (fun z => c1 z.1)]
  by_cases c3 : gW g = 3
  · rw [if_pos c3]
    show cd (pHasIf M g) + 0 ≤ cd M
    have : mR (pHasIf M g) = mR M := by unfold pHasIf pHas; split <;> (try split) <;> rfl
    rw [cd_of this]
    exact Nat.le_refl _
  · rw [if_neg c3]
    exact follow_cd
theorem msg_n {sz : Nat} {M : PM} {B : PB} {g : PMg} : mN (pMsg sz M B g).1 = mN M := by
  have hb : mN (mBack M) = mN M := by unfold mBack; split <;> rfl
  unfold pMsg
  split
  · rfl
  · split
    · unfold pVote leadIf
      split
      · split <;> rfl
      · rfl
    · split
      · show mN (pHasIf M g) = mN M
        unfold pHasIf pHas
        split
        · split <;> rfl
        · rfl
      · unfold pFollow
        split
        · rfl
        · split
          · show mN (mSnap (mBack M) g) = mN M
            unfold mSnap
            split
            · exact hb
            · exact hb
          · unfold pTake
            split
            · exact hb
            · exact hb
theorem meet_n {M : PM} {t : Int32} : mN (mMeet M t) = mN M := by unfold mMeet; split <;> rfl
/-- what holds of a net for good: numbers in bounds, with room for those that may come to lead -/
def nInv (p : Nat) (P : PN) : Prop := ∃ b, nOK b P ∧ b + candN (nM P) ≤ p
theorem deliver_inv {b : Nat} {P : PN} {i : Nat} {g : PMg} (h : nOK b P) (hi : (nB P)[i]? = some g) : nOK (b + nLeads P g) (nDeliver P i g) ∧ candN (nM (nDeliver P i g)) + nLeads P g ≤ candN (nM P) ∧ (nM (nDeliver P i g)).length = (nM P).length ∧ (nR (nDeliver P i g)).length = (nR P).length ∧ (nB P).length ≤ (nB P).length := by
  obtain ⟨p1, p2, p3, p4, p5⟩ := h
  have hg := p5 g (List.mem_of_getElem? hi)
  obtain ⟨M, hM⟩ := get_ex (l := nM P) (i := gT g) hg.1.2.2
  obtain ⟨m1, m2, m3⟩ := p4 _ M hM
  have he : (List.eraseIdx (nB P) i).length ≤ 30 := by rw [List.length_eraseIdx]; split <;> omega
  have hd : nOK b (nDel P i) := ⟨p1, he, p3, p4, fun x hx => p5 x (List.mem_of_mem_eraseIdx hx)⟩
  by_cases c : mR M = 0
  · have e1 : nLeads P g = 0 := by unfold nLeads; rw [mAt_get hM, if_pos c]
    rw [nDel_down hM c, e1]
    exact ⟨⟨p1, he, p3, p4, fun x hx => p5 x (List.mem_of_mem_eraseIdx hx)⟩, Nat.le_refl _, rfl, rfl, Nat.le_refl _⟩
  · rw [nDel_up hM c, nLeads_up hM c]
    have hxo : xOK (nM P).length (nR P).length b (mMeet M (gTm g), pB (List.eraseIdx (nB P) i) (nLo P)) := ⟨meet_ok m1, he, fun x hx => p5 x (List.mem_of_mem_eraseIdx hx)⟩
    have hmr : mSu (mMeet M (gTm g)) = mDn (mMeet M (gTm g)) := by unfold mMeet; split <;> exact m3
    have hmx := msg_xok hxo hg hmr
    have hr := settle_ok (now := nNow P) hmx.1 p3
    refine ⟨nPut_ok (P := nDel P i) hd hM hmx (by omega) (by rw [msg_n, meet_n]; exact m2), ?_, List.length_set, hr.2.2.2.2.1, Nat.le_refl _⟩
    have hs := sum_set (f := cd) (x := M) (y := (settle (nM P).length (nNow P) (pMsg (nM P).length (mMeet M (gTm g)) (pB (List.eraseIdx (nB P) i) (nLo P)) g).1 (nR P)).1) hM
    have h1 := msg_cd (sz := (nM P).length) (M := mMeet M (gTm g)) (B := pB (List.eraseIdx (nB P) i) (nLo P)) (g := g)
    have h2 := meet_cd (M := M) (t := gTm g)
    rw [cd_of hr.2.2.1] at hs
    change (((nM P).set (gT g) (settle (nM P).length (nNow P) (pMsg (nM P).length (mMeet M (gTm g)) (pB (List.eraseIdx (nB P) i) (nLo P)) g).1 (nR P)).1).map cd).sum + mLeads (nM P).length (mMeet M (gTm g)) g ≤ ((nM P).map cd).sum
    omega
theorem deliver_nInv {p : Nat} {P : PN} {i : Nat} {g : PMg} (h : nInv p P) (hi : (nB P)[i]? = some g) : nInv p (nDeliver P i g) := by
  obtain ⟨b, h1, h2⟩ := h
  obtain ⟨h3, h4, -⟩ := deliver_inv h1 hi
  exact ⟨_, h3, by omega⟩
theorem nAll_ok {p : Nat} : ∀ (n : Nat) (P : PN), nInv p P → nInv p (nAll n P) ∧ nAllL n P ≤ candN (nM P) ∧ nAllN n P ≤ n ∧ (nM (nAll n P)).length = (nM P).length ∧ (nR (nAll n P)).length = (nR P).length := by
  intro n
  induction n with
  | zero => exact fun P h => ⟨h, Nat.zero_le _, Nat.le_refl _, rfl, rfl⟩
  | succ n ih =>
    intro P h
    unfold nAll nAllL nAllN
    cases hg : (nB P)[0]? with
    | none => exact ⟨h, Nat.zero_le _, Nat.zero_le _, rfl, rfl⟩
    | some g =>
      obtain ⟨i1, i2, i3, i4, i5⟩ := ih _ (deliver_nInv h hg)
      obtain ⟨b, hb, -⟩ := h
      obtain ⟨-, h4, h5, h6, -⟩ := deliver_inv hb hg
      exact ⟨i1, by show nLeads P g + _ ≤ _; omega, by show _ + 1 ≤ _; omega, i4.trans h5, i5.trans h6⟩
theorem nAll_s {n : Nat} {P : PN} {g : PMg} (hg : (nB P)[0]? = some g) : nAll (n + 1) P = nAll n (nDeliver P 0 g) ∧ nAllN (n + 1) P = nAllN n (nDeliver P 0 g) + 1 ∧ nAllL (n + 1) P = nLeads P g + nAllL n (nDeliver P 0 g) := by
  unfold nAll nAllL nAllN
  rw [hg]
  refine ⟨?_, ?_, ?_⟩ <;> (cases n <;> rfl)
theorem nAll_e {n : Nat} {P : PN} (hg : (nB P).length = 0) : nAll n P = P ∧ nAllN n P = 0 ∧ nAllL n P = 0 := by
  cases n with
  | zero => exact ⟨rfl, rfl, rfl⟩
  | succ n =>
    have : (nB P)[0]? = none := List.getElem?_eq_none (by omega)
    unfold nAll nAllL nAllN
    rw [this]
    exact ⟨rfl, rfl, rfl⟩
theorem BL.al {E : EE} {fz : va_W} {lb : Nat} {bs : List PMg} {wb : va_W} (h : BL E fz lb bs wb) : ∃ as : List Nat, AL E lb as wb ∧ as.length = bs.length := by
  obtain ⟨gs, h1, h2, h3⟩ := h
  exact ⟨_, h2, by rw [List.length_map, ← h1, List.length_map]⟩
theorem RL.al {E : EE} {lr : Nat} {R : List PR} {wr wq : va_W} (h : RL E lr R wr wq) : ∃ as : List Nat, AL E lr as wr ∧ as.length = R.length := by
  obtain ⟨gs, h1, h2, h3⟩ := h
  exact ⟨_, h2, by rw [List.length_map, ← h1, List.length_map]⟩
theorem ML.al {E : EE} {fz : va_W} {lm : Nat} {Ms : List PM} {wm wM : va_W} (h : ML E fz lm Ms wm wM) : ∃ as : List Nat, AL E lm as wm ∧ as.length = Ms.length := by
  obtain ⟨gs, h1, h2, h3, h4⟩ := h
  exact ⟨_, h2, by rw [List.length_map, ← h1, List.length_map]⟩
