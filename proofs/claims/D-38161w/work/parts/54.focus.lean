/-! one machine of the net, one request, taken out and put back -/
theorem ml_focus {E : EE} {fz : va_W} {lm : Nat} {Ms : List PM} {wm wM : va_W} (h : ML E fz lm Ms wm wM) {k : Nat} {M : PM} (hk : Ms[k]? = some M) : ∃ (mas : List Nat) (m : Nat) (wk pre post : va_W), AL E lm mas wm ∧ mas.length = Ms.length ∧ mas[k]? = some m ∧ IsMach E fz m M wk ∧ wM = pre ++ (wk ++ post) ∧
    ∀ (fz1 : va_W) (M1 : PM) (wk1 : va_W), Ext E fz fz1 → IsMach E fz1 m M1 wk1 → ML E fz1 lm (Ms.set k M1) wm (pre ++ (wk1 ++ post)) := by
  obtain ⟨mm, h1, h2, h3, rfl⟩ := h
  subst h1
  rw [List.getElem?_map] at hk
  obtain ⟨x, hx, rfl⟩ : ∃ x, mm[k]? = some x ∧ x.2.1 = M := by
    cases hm : mm[k]? with
    | none => rw [hm] at hk; cases hk
    | some x => rw [hm] at hk; exact ⟨x, rfl, Option.some.inj hk⟩
  obtain ⟨hl, hxe⟩ := List.getElem?_eq_some_iff.mp hx
  refine ⟨mm.map Prod.fst, x.1, x.2.2, MS (mm.take k), MS (mm.drop (k + 1)), h2, by simp, by rw [List.getElem?_map, hx]; rfl, h3 x (List.mem_of_getElem? hx), ms_at hx, fun fz1 M1 wk1 he hM => ?_⟩
  refine ⟨mm.set k (x.1, M1, wk1), List.map_set, ?_, ?_, ms_set (y := (x.1, M1, wk1)) hl⟩
  · rw [List.map_set, show (mm.map Prod.fst).set k (x.1, M1, wk1).1 = mm.map Prod.fst from ?_]
    · exact h2
    · apply List.ext_getElem?
      intro i
      rw [List.getElem?_set]
      by_cases hi : k = i
      · subst hi
        rw [if_pos rfl, List.getElem?_map, hx, if_pos (by rw [List.length_map]; exact hl)]
        rfl
      · rw [if_neg hi]
  · intro y hy
    rcases List.mem_or_eq_of_mem_set hy with h4 | rfl
    · exact (h3 y h4).mono he
    · exact hM
theorem rl_focus {E : EE} {lr : Nat} {R : List PR} {wr wq : va_W} (h : RL E lr R wr wq) {j : Nat} {r : PR} (hj : R[j]? = some r) : ∃ (ras : List Nat) (a : Nat) (pre post : va_W), AL E lr ras wr ∧ ras.length = R.length ∧ ras[j]? = some a ∧ wq = pre ++ ([(a, rqC E r)] ++ post) ∧
    ∀ r1 : PR, RL E lr (R.set j r1) wr (pre ++ ([(a, rqC E r1)] ++ post)) := by
  obtain ⟨rr, h1, h2, rfl⟩ := h
  subst h1
  rw [List.getElem?_map] at hj
  obtain ⟨x, hx, rfl⟩ : ∃ x, rr[j]? = some x ∧ x.2 = r := by
    cases hm : rr[j]? with
    | none => rw [hm] at hj; cases hj
    | some x => rw [hm] at hj; exact ⟨x, rfl, Option.some.inj hj⟩
  exact ⟨rr.map Prod.fst, x.1, RS E (rr.take j), RS E (rr.drop (j + 1)), h2, by simp, by rw [List.getElem?_map, hx]; rfl, rs_at hx, fun r1 => rl_set (r' := r1) hx h2⟩
theorem er_map2 {α β : Type} (f : α → β) : ∀ (l : List α) (i : Nat), (l.eraseIdx i).map f = (l.map f).eraseIdx i := er_map f
theorem bl_focus {E : EE} {fz : va_W} {lb : Nat} {bs : List PMg} {wb : va_W} (h : BL E fz lb bs wb) {i : Nat} {g : PMg} (hi : bs[i]? = some g) : ∃ (bas : List Nat) (a : Nat), AL E lb bas wb ∧ bas.length = bs.length ∧ bas[i]? = some a ∧ MsgIn E fz a g ∧ okL E fz bas ∧
    ∀ w1, AL E lb (List.eraseIdx bas i) w1 → BL E fz lb (List.eraseIdx bs i) w1 := by
  obtain ⟨gs, h1, h2, h3⟩ := h
  subst h1
  rw [List.getElem?_map] at hi
  obtain ⟨x, hx, rfl⟩ : ∃ x, gs[i]? = some x ∧ x.2 = g := by
    cases hm : gs[i]? with
    | none => rw [hm] at hi; cases hi
    | some x => rw [hm] at hi; exact ⟨x, rfl, Option.some.inj hi⟩
  refine ⟨gs.map Prod.fst, x.1, h2, by simp, by rw [List.getElem?_map, hx]; rfl, h3 x (List.mem_of_getElem? hx), msg_ok h3, fun w1 hw => ⟨gs.eraseIdx i, ?_, ?_, fun g hg => h3 g (List.mem_of_mem_eraseIdx hg)⟩⟩
  · exact er_map2 _ _ _
  · rw [er_map2]; exact hw
abbrev pB (bs : List PMg) (lo : Int32) : PB := (bs, lo)
def mMeetD (M : PM) (t : Int32) : PM := setR (setL M (lE (mL M), if lT (mL M) < t then t else lT (mL M), if lT (mL M) < t then (-1) else lV (mL M), (mL M).2.2.2)) (if lT (mL M) < t then 1 else mR M) (if lT (mL M) < t then 0 else mVt M)
theorem mMeetD_e (M : PM) (t : Int32) : mMeet M t = mMeetD M t := by
  unfold mMeet mMeetD
  by_cases h : lT (mL M) < t
  · rw [if_pos h, if_pos h, if_pos h, if_pos h, if_pos h]
    rfl
  · rw [if_neg h, if_neg h, if_neg h, if_neg h, if_neg h]
    rfl
theorem ldC_n {sz : Nat} {v : Int32} (h : sz ≤ 5) : ldC sz v ≤ 22 * ldN sz v ∧ ldS sz v ≤ 542 * ldN sz v := by
  unfold ldC ldS ldN
  split <;> omega
theorem mLeads_le {sz : Nat} {M : PM} {g : PMg} : mLeads sz M g ≤ 1 := by
  unfold mLeads
  split <;> omega
theorem mLeads_v {sz : Nat} {M : PM} {g : PMg} (h1 : gW g = 1) (h2 : gY g = true ∧ mR M = 2 ∧ gTm g = lT (mL M)) : mLeads sz M g = ldN sz (mVt (mVote M g)) := by
  unfold mLeads ldN
  by_cases c : isMost sz (mVt (mVote M g))
  · rw [if_pos c, if_pos ⟨h1, h2, c⟩]
  · rw [if_neg c, if_neg (fun z => c z.2.2)]
theorem nDel_up {P : PN} {i : Nat} {g : PMg} {M : PM} (hM : (nM P)[gT g]? = some M) (h : ¬ mR M = 0) : nDeliver P i g = nPut (nDel P i) (gT g) (pMsg (nM P).length (mMeet M (gTm g)) (pB (List.eraseIdx (nB P) i) (nLo P)) g) := by
  unfold nDeliver
  rw [mAt_get hM, if_neg h]
theorem nLeads_up {P : PN} {g : PMg} {M : PM} (hM : (nM P)[gT g]? = some M) (h : ¬ mR M = 0) : nLeads P g = mLeads (nM P).length (mMeet M (gTm g)) g := by
  unfold nLeads
  rw [mAt_get hM, if_neg h]
theorem nDel_down {P : PN} {i : Nat} {g : PMg} {M : PM} (hM : (nM P)[gT g]? = some M) (h : mR M = 0) : nDeliver P i g = (nM P, (nB P).eraseIdx i, nR P, nLo P + 1, nNow P) := by
  unfold nDeliver
  rw [mAt_get hM, if_pos h]
abbrev en4 (M : PM) (B : PB) : PM × PB := (M, B)
