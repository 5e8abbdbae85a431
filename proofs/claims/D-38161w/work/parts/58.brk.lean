/-! what is broken -/
def areTwoB (M M2 : PM) : Bool := decide (mR M = 3 ∧ mR M2 = 3 ∧ lT (mL M) = lT (mL M2))
def fencedB (r r2 : PR) : Bool := decide ((rK r = 3 ∧ rK r2 = 3 ∧ rY r = rY r2 ∧ ¬ rC r = rC r2) ∧ ¬ rAns r = (-1) ∧ ¬ rAns r2 = (-1) ∧ 0 < rRes r ∧ rRes r = rRes r2)
/-- an entry of a machine's log, where it lies -/
theorem MachIn.ent {E : EE} {fz : va_W} {a : Nat} {M : PM} {w : va_W} (h : MachIn E fz a M w) {i : Nat} (hi : i < (lE (mL M)).length) : ∃ (rn rk rl rs rst la sp : Nat) (m0 : Int32) (arr cap : Nat) (f : Nat → Option Nat) (y : Nat) (e : PEn), (a, ob 8 [.int (nI (mN M)), .ref rn, .ref rk, .ref rl, .ref rs, .ref rst, .int (mR M), .int (mVt M), .int (nI (mSu M)), .int (nI (mDn M)), .int (bI (mLz M))]) ∈ w ∧
    (rl, ob 9 [.ref la, .int (lT (mL M)), .int (lV (mL M)), .int (nI (lB (mL M))), .int (lBT (mL M)), .ref sp]) ∈ w ∧ (la, ob 15 [.int m0, .ref arr, .int (nI (lE (mL M)).length)]) ∈ w ∧ (arr, qA (aC E 2) cap f) ∈ w ∧ f i = some y ∧ (y, enC e) ∈ fz ∧ (lE (mL M))[i]? = some e ∧ (lE (mL M)).length ≤ cap ∧ cap ≤ 100000 := by
  obtain ⟨wk, h, hs⟩ := h
  obtain ⟨rn, rk, rl, rs, rst, fn, fk, wl, ws, wst, hn, hL, hV, -, rfl⟩ := h
  obtain ⟨la, sp, ges, wl, hE, hg, -, rfl⟩ := hL
  have e1 : ges.length = (lE (mL M)).length := by rw [← hg, List.length_map]
  obtain ⟨g, hgi⟩ := get_ex (l := ges) (i := i) (by omega)
  obtain ⟨m0, arr, cap, f, h1, h2, h3, h4⟩ := hE.1
  rw [List.length_map] at h1 h3
  have hf : f i = some g.1 := by rw [h3 i (by omega)]; exact map_get hgi
  rcases h4 with ⟨-, h4⟩ | ⟨h4, -, -⟩
  · rw [List.length_map, e1] at h4
    refine ⟨rn, rk, rl, rs, rst, la, sp, m0, arr, cap, f, g.1, g.2, hs _ List.mem_cons_self, hs _ ?_, hs _ ?_, hs _ ?_, hf, hE.2 g (List.mem_of_getElem? hgi), by rw [← hg]; exact map_get2 hgi, by omega, h2⟩
    · exact List.mem_cons_of_mem _ (List.mem_cons_of_mem _ (List.mem_cons_of_mem _ (List.mem_append_left _ List.mem_cons_self)))
    · exact List.mem_cons_of_mem _ (List.mem_cons_of_mem _ (List.mem_cons_of_mem _ (List.mem_append_left _ (List.mem_cons_of_mem _ (by rw [h4]; exact List.mem_cons_self)))))
    · exact List.mem_cons_of_mem _ (List.mem_cons_of_mem _ (List.mem_cons_of_mem _ (List.mem_append_left _ (List.mem_cons_of_mem _ (by rw [h4]; exact List.mem_cons_of_mem _ List.mem_cons_self)))))
  · omega
/-- whether two logs differ behind lo, at the first i numbers -/
def difUp (L1 L2 : PL) (lo : Nat) : Nat → Bool
  | 0 => false
  | i + 1 => difUp L1 L2 lo i || !decide (enG L1 (lo + 1 + i) = enG L2 (lo + 1 + i))
def difLast (M M2 : PM) : Nat := min (min (mSu M) (mSu M2)) (min (lLast (mL M)) (lLast (mL M2)))
def difLo (M M2 : PM) : Nat := max (lB (mL M)) (lB (mL M2))
def differB (M M2 : PM) : Bool := if ¬ mR M = 0 ∧ ¬ mR M2 = 0 then difUp (mL M) (mL M2) (difLo M M2) (difLast M M2 - difLo M M2) else false
theorem bI_or (b c : Bool) : bI b ||| bI c = bI (b || c) := by cases b <;> cases c <;> decide
theorem difUp_s {L1 L2 : PL} {lo i : Nat} {e1 e2 : PEn} (h1 : (lE L1)[lo + 1 + i - lB L1 - 1]? = some e1) (h2 : (lE L2)[lo + 1 + i - lB L2 - 1]? = some e2) : bI (difUp L1 L2 lo i) ||| (if e1.1 = e2.1 ∧ e1.2 = e2.2 then 0 else 1) = bI (difUp L1 L2 lo (i + 1)) := by
  have g1 : enG L1 (lo + 1 + i) = e1 := by unfold enG; rw [h1]; rfl
  have g2 : enG L2 (lo + 1 + i) = e2 := by unfold enG; rw [h2]; rfl
  rw [show difUp L1 L2 lo (i + 1) = (difUp L1 L2 lo i || !decide (enG L1 (lo + 1 + i) = enG L2 (lo + 1 + i))) from rfl, g1, g2, ← bI_or]
  congr 1
  by_cases c : e1 = e2
  · subst c
    rw [if_pos ⟨rfl, rfl⟩, decide_eq_true rfl]
    rfl
  · rw [if_neg (fun z => c (Prod.ext z.1 z.2)), decide_eq_false c]
    rfl
