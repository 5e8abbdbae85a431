/-! copying the net: lists in the making -/
abbrev mk3 (q : Nat) (M : PM) (w : va_W) : Nat × PM × va_W := (q, M, w)
abbrev mk2 (q : Nat) (r : PR) : Nat × PR := (q, r)
theorem ms_snoc {mm : List (Nat × PM × va_W)} {x : Nat × PM × va_W} : MS (mm ++ [x]) = MS mm ++ x.2.2 := by
  unfold MS; rw [List.map_append, List.flatten_append, List.map_cons, List.map_nil, List.flatten_cons, List.flatten_nil, List.append_nil]
theorem rs_snoc {E : EE} {rr : List (Nat × PR)} {x : Nat × PR} : RS E (rr ++ [x]) = RS E rr ++ [(x.1, rqC E x.2)] := by
  unfold RS; rw [List.map_append]; rfl
theorem set_self {α : Type} {l : List α} {i : Nat} {x : α} (h : l[i]? = some x) : l.set i x = l := by
  apply List.ext_getElem?
  intro j
  rw [List.getElem?_set]
  by_cases c : i = j
  · subst c
    obtain ⟨hl, -⟩ := List.getElem?_eq_some_iff.mp h
    rw [if_pos rfl, if_pos hl, h]
  · rw [if_neg c]
theorem fl_le5 {n : Nat} (h : n ≤ 5) : fl_mc n ≤ 1 ∧ fl_ms n ≤ 10 := by
  unfold fl_mc fl_ms
  constructor <;> (repeat' split) <;> omega
theorem fl_le30 {n : Nat} (h : n ≤ 30) : fl_mc n ≤ 4 ∧ fl_ms n ≤ 80 := by
  unfold fl_mc fl_ms
  constructor <;> (repeat' split) <;> omega
theorem ms_ok2 {E : EE} {fz : va_W} {mm : List (Nat × PM × va_W)} {x : Nat × PM × va_W} (h : ∀ y ∈ mm, IsMach E fz y.1 y.2.1 y.2.2) (hx : IsMach E fz x.1 x.2.1 x.2.2) : okE E (MS (mm ++ [x])) x.1 ∧ okL E (MS (mm ++ [x])) (mm.map Prod.fst) ∧ ∀ y ∈ mm ++ [x], IsMach E fz y.1 y.2.1 y.2.2 := by
  have h2 : ∀ y ∈ mm ++ [x], IsMach E fz y.1 y.2.1 y.2.2 := by
    intro y hy
    rcases List.mem_append.mp hy with k | k
    · exact h y k
    · rw [List.mem_singleton.mp k]; exact hx
  have h3 := ms_ok h2
  refine ⟨h3 _ (List.mem_map.mpr ⟨x, List.mem_append_right _ (List.mem_singleton.mpr rfl), rfl⟩), fun y hy => h3 y ?_, h2⟩
  obtain ⟨g, hg, rfl⟩ := List.mem_map.mp hy
  exact List.mem_map.mpr ⟨g, List.mem_append_left _ hg, rfl⟩
theorem rs_ok2 {E : EE} {rr : List (Nat × PR)} {x : Nat × PR} : okE E (RS E (rr ++ [x])) x.1 ∧ okL E (RS E (rr ++ [x])) (rr.map Prod.fst) := by
  have h3 := rq_ok (E := E) (rr := rr ++ [x])
  refine ⟨h3 _ (List.mem_map.mpr ⟨x, List.mem_append_right _ (List.mem_singleton.mpr rfl), rfl⟩), fun y hy => h3 y ?_⟩
  obtain ⟨g, hg, rfl⟩ := List.mem_map.mp hy
  exact List.mem_map.mpr ⟨g, List.mem_append_left _ hg, rfl⟩
theorem ML.mk {E : EE} {fz : va_W} {lm cap : Nat} {Ms : List PM} {mm : List (Nat × PM × va_W)} {wm : va_W} (h1 : mm.map (fun x => x.2.1) = Ms) (h2 : ALc E lm (mm.map Prod.fst) cap wm) (h3 : ∀ x ∈ mm, IsMach E fz x.1 x.2.1 x.2.2) : ML E fz lm Ms wm (MS mm) := ⟨mm, h1, h2.al, h3, rfl⟩
theorem RL.mk {E : EE} {lr cap : Nat} {R : List PR} {rr : List (Nat × PR)} {wr : va_W} (h1 : rr.map Prod.snd = R) (h2 : ALc E lr (rr.map Prod.fst) cap wr) : RL E lr R wr (RS E rr) := ⟨rr, h1, h2.al, rfl⟩
theorem BL.mk {E : EE} {fz : va_W} {lb cap : Nat} {bs : List PMg} {gs : List (Nat × PMg)} {wb : va_W} (h1 : gs.map Prod.snd = bs) (h2 : ALc E lb (gs.map Prod.fst) cap wb) (h3 : ∀ g ∈ gs, MsgIn E fz g.1 g.2) : BL E fz lb bs wb := ⟨gs, h1, h2.al, h3⟩
