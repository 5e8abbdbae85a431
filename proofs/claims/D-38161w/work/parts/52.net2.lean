/-! what is owed of messages, and that it stays -/
theorem MsgIn.out {E : EE} {fz : va_W} {a : Nat} {m : PMg} (h : MsgIn E fz a m) : ∃ (ra sp : Nat) (ges : List (Nat × PEn)) (f : Nat → Option Nat),
  (a, ob 11 [.ref (aW E (gW m)), .int (nI (gF m)), .int (nI (gT m)), .int (gTm m), .int (nI (gN m)), .int (gIt m), .int (bI (gY m)), .int (nI (gS m)), .ref ra, .ref sp]) ∈ fz ∧ (ra, qA (aC E 3) (List.length ges) f) ∈ fz ∧
  (∀ i, i < ges.length → f i = (ges.map Prod.fst)[i]?) ∧ ges.map Prod.snd = gE m ∧ (∀ g ∈ ges, (g.1, enC g.2) ∈ fz) ∧ StIn E fz sp (gSn m) := h
def gOK (sz nr b : Nat) (g : PMg) : Prop := (gW g < 5 ∧ gF g < sz ∧ gT g < sz) ∧ (gN g + (gE g).length ≤ b ∧ gS g ≤ b) ∧ enOK nr (gE g) ∧ (gE g).length ≤ 2
theorem upd_nI {fn : Nat → Int32} {nx : Nat → Nat} {j x k : Nat} (h : fn k = nI (nx k)) : upd fn j (nI x) k = nI (upN nx j x k) := by
  unfold upd upN
  split
  · rfl
  · exact h
def askFree (M : PM) (g : PMg) : Bool := decide (lV (mL M) = (-1) ∨ lV (mL M) = nI (gF g))
def askNewB (M : PM) (g : PMg) : Bool := decide (askNew (mL M) g)
theorem askFree_v {M : PM} {g : PMg} : (if lV (mL M) = (-1) then (1 : Int32) else if lV (mL M) = nI (gF g) then 1 else 0) = bI (askFree M g) := by
  unfold bI askFree
  by_cases c2 : lV (mL M) = (-1) <;> by_cases c3 : lV (mL M) = nI (gF g) <;> simp [c2, c3]
theorem askNew_1 {M : PM} {g : PMg} (h : askNew (mL M) g) : (1 : Int32) = bI (askNewB M g) := by
  unfold askNewB bI
  rw [decide_eq_true h]
  rfl
theorem askNew_0 {M : PM} {g : PMg} (h : ¬ askNew (mL M) g) : (0 : Int32) = bI (askNewB M g) := by
  unfold askNewB bI
  rw [decide_eq_false h]
  rfl
theorem askNew_i {M : PM} {g : PMg} (h1 : ¬ lTmA (mL M) (lLast (mL M)) < gIt g) (h2 : gIt g = lTmA (mL M) (lLast (mL M))) (h3 : gN g < 2 ^ 31) (h4 : lLast (mL M) < 2 ^ 31) : (if nI (gN g) < nI (lLast (mL M)) then (0 : Int32) else 1) = bI (askNewB M g) := by
  have e1 : nI (gN g) < nI (lLast (mL M)) ↔ gN g < lLast (mL M) := nI_ltI h3 h4
  by_cases c : gN g < lLast (mL M)
  · rw [if_pos (e1.mpr c)]
    exact askNew_0 (fun z => z.elim (fun z => h1 z) (fun z => absurd z.2 (Nat.not_le.mpr c)))
  · rw [if_neg (mt e1.mp c)]
    exact askNew_1 (Or.inr ⟨h2, Nat.not_lt.mp c⟩)
theorem askYes_v {M : PM} {g : PMg} : (if gTm g = lT (mL M) then (if askFree M g = false then (0 : Int32) else if askNewB M g = false then 0 else 1) else 0) = bI (askYes M g) := by
  unfold askYes bI askFree askNewB
  by_cases c1 : gTm g = lT (mL M) <;> by_cases c2 : (lV (mL M) = (-1) ∨ lV (mL M) = nI (gF g)) <;> by_cases c3 : askNew (mL M) g <;> simp [c1, c2, c3]
def mSnapD (M : PM) (g : PMg) : PM := setDn (setSu (setS (setL M ([], lT (mL M), lV (mL M), gN g, gIt g, gSn g)) (gSn g)) (gN g)) (gN g)
theorem mSnap_p {M : PM} {g : PMg} (h : mSu M < gN g) : mSnap M g = mSnapD M g := if_pos h
theorem mSnap_n {M : PM} {g : PMg} (h : ¬ mSu M < gN g) : mSnap M g = M := if_neg h
theorem tkStep_le {b : Nat} {es : List PEn} {n : Nat} {e : PEn} {a i m : Nat} (hn : n = a + 1 + i) (h1 : a + i ≤ b + es.length) (h2 : b + es.length ≤ max m (a + i)) : a + (i + 1) ≤ b + (tkStep b es n e).length ∧ b + (tkStep b es n e).length ≤ max m (a + (i + 1)) := by
  unfold tkStep
  split
  · omega
  · unfold tkAdd tkCut
    split
    · split
      · rename_i h3 h4
        rw [List.length_take] at h4
        omega
      · rw [List.length_append, List.length_singleton, List.length_take]; omega
    · split
      · omega
      · rw [List.length_append, List.length_singleton]; omega
theorem tkUp_le {b : Nat} {es : List PEn} {a : Nat} {en : List PEn} (h : a ≤ b + es.length) : ∀ i, a + i ≤ b + (tkUp b es a en i).length ∧ b + (tkUp b es a en i).length ≤ max (b + es.length) (a + i) := by
  intro i
  induction i with
  | zero => exact ⟨h, by show b + es.length ≤ _; omega⟩
  | succ i ih => exact tkStep_le rfl ih.1 ih.2
theorem tk_A {b : Nat} {es : List PEn} {n : Nat} {e : PEn} (h : n ≤ b) : tkStep b es n e = es := if_pos h
theorem tk_B {b : Nat} {es : List PEn} {n : Nat} {e g : PEn} (h : ¬ n ≤ b) (h1 : b < n ∧ n ≤ b + es.length) (hg : es[n - b - 1]? = some g) (he : g.1 = e.1) : tkStep b es n e = es := by
  unfold tkStep
  rw [if_neg h, show tkCut b es n e = es from if_neg (fun z => z.2 (by rw [hg]; exact he))]
  exact if_pos h1
theorem tk_C {b : Nat} {es : List PEn} {n : Nat} {e g : PEn} (h : ¬ n ≤ b) (h1 : b < n ∧ n ≤ b + es.length) (hg : es[n - b - 1]? = some g) (he : ¬ g.1 = e.1) : tkStep b es n e = es.take (n - b - 1) ++ [e] := by
  unfold tkStep
  rw [if_neg h, show tkCut b es n e = es.take (n - b - 1) from if_pos ⟨h1, by rw [hg]; exact he⟩]
  exact if_neg (by rw [List.length_take]; omega)
theorem tk_D {b : Nat} {es : List PEn} {n : Nat} {e : PEn} (h : ¬ n ≤ b) (h1 : ¬ (b < n ∧ n ≤ b + es.length)) : tkStep b es n e = es ++ [e] := by
  unfold tkStep
  rw [if_neg h, show tkCut b es n e = es from if_neg (fun z => h1 z.1)]
  exact if_neg h1
theorem map_get2 {ges : List (Nat × PEn)} {i : Nat} {g : Nat × PEn} (h : ges[i]? = some g) : (ges.map Prod.snd)[i]? = some g.2 := by rw [List.getElem?_map, h]; rfl
theorem get_D {l : List PEn} {i : Nat} {e : PEn} (h : l[i]? = some e) : l[i]?.getD (0, 0) = e := by rw [h]; rfl
