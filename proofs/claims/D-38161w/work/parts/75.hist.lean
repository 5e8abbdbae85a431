/-! a key's history: which requests, in which order; one order of what was told -/
abbrev isVal (r : PR) : Prop := rK r = 0 ∨ rK r = 1 ∨ rK r = 2
def plc (l : List PR) (s : Int32) : Nat → Nat
  | 0 => 0
  | n + 1 => if s < rSent ((l[n]?).getD r0) then plc l s n else n + 1
theorem plc_le (l : List PR) (s : Int32) : ∀ n, plc l s n ≤ n := by
  intro n
  induction n with
  | zero => exact Nat.le_refl _
  | succ n ih => unfold plc; split <;> omega
def hPut (l : List PR) (r : PR) : List PR := (l.insertIdx (plc l (rSent r) l.length) r).eraseIdx 8
theorem hPut_len {l : List PR} {r : PR} (h : l.length ≤ 8) : (l.insertIdx (plc l (rSent r) l.length) r).length = l.length + 1 ∧ (hPut l r).length ≤ 8 := by
  have h1 : (l.insertIdx (plc l (rSent r) l.length) r).length = l.length + 1 := by rw [List.length_insertIdx, if_pos (plc_le _ _ _)]
  refine ⟨h1, ?_⟩
  unfold hPut
  rw [List.length_eraseIdx, h1]
  split <;> omega
theorem hPut_short {l : List PR} {r : PR} (h : l.length < 8) : hPut l r = l.insertIdx (plc l (rSent r) l.length) r := by
  have h1 : (l.insertIdx (plc l (rSent r) l.length) r).length = l.length + 1 := by rw [List.length_insertIdx, if_pos (plc_le _ _ _)]
  unfold hPut
  exact List.eraseIdx_of_length_le (by omega)
abbrev hIs (ky : Nat) (r : PR) : Prop := rY r = ky ∧ isVal r ∧ ¬ rSent r = (-1)
def hUp (R : List PR) (ky : Nat) : Nat → List PR
  | 0 => []
  | k + 1 => if hIs ky ((R[k]?).getD r0) then hPut (hUp R ky k) ((R[k]?).getD r0) else hUp R ky k
theorem hUp_len (R : List PR) (ky : Nat) : ∀ k, (hUp R ky k).length ≤ 8 := by
  intro k
  induction k with
  | zero => exact Nat.zero_le _
  | succ k ih =>
    unfold hUp
    split
    · exact (hPut_len ih).2
    · exact ih
theorem hUp_y {R : List PR} {ky i : Nat} {r : PR} (h : R[i]? = some r) (hi : hIs ky r) : hUp R ky (i + 1) = hPut (hUp R ky i) r := by
  show (if hIs ky ((R[i]?).getD r0) then hPut (hUp R ky i) ((R[i]?).getD r0) else hUp R ky i) = _
  rw [getD_e h, if_pos hi]
theorem hUp_n {R : List PR} {ky i : Nat} {r : PR} (h : R[i]? = some r) (hi : ¬ hIs ky r) : hUp R ky (i + 1) = hUp R ky i := by
  show (if hIs ky ((R[i]?).getD r0) then hPut (hUp R ky i) ((R[i]?).getD r0) else hUp R ky i) = _
  rw [getD_e h, if_neg hi]
/-- the list of a history: references to requests that lie among the cells wq -/
def HL (E : EE) (a : Nat) (l : List PR) (wq w : va_W) : Prop := ∃ hs : List (Nat × PR), hs.map Prod.snd = l ∧ AL E a (hs.map Prod.fst) w ∧ ∀ g ∈ hs, (g.1, rqC E g.2) ∈ wq
theorem HL.head {E : EE} {a : Nat} {l : List PR} {wq w : va_W} (h : HL E a l wq w) : ∃ fs, (a, ob 15 fs) ∈ w := by
  obtain ⟨hs, -, h, -⟩ := h
  exact h.head
theorem HL.nil {E : EE} {a : Nat} {wq w : va_W} (h : AL E a [] w) : HL E a [] wq w := ⟨[], rfl, h, fun g hg => absurd hg List.not_mem_nil⟩
theorem in_map {α β : Type} (f : α → β) (x : α) : ∀ (l : List α) (i : Nat), (l.insertIdx i x).map f = (l.map f).insertIdx i (f x) := by
  intro l
  induction l with
  | nil =>
    intro i
    cases i with
    | zero => rfl
    | succ i => rfl
  | cons a l ih =>
    intro i
    cases i with
    | zero => rfl
    | succ i =>
      rw [List.insertIdx_succ_cons, List.map_cons, List.map_cons, List.insertIdx_succ_cons, ih]
theorem HL.al {E : EE} {a : Nat} {l : List PR} {wq w : va_W} (h : HL E a l wq w) : ∃ as : List Nat, AL E a as w ∧ as.length = l.length ∧ okL E wq as ∧
    (∀ (p x : Nat) (r : PR) (w1 : va_W), (x, rqC E r) ∈ wq → AL E a (as.insertIdx p x) w1 → HL E a (l.insertIdx p r) wq w1) ∧ (∀ (p : Nat) (w1 : va_W), AL E a (as.eraseIdx p) w1 → HL E a (l.eraseIdx p) wq w1) := by
  obtain ⟨hs, h1, h2, h3⟩ := h
  subst h1
  refine ⟨_, h2, by simp, fun y hy => ?_, fun p x r w1 hx hA => ⟨hs.insertIdx p (x, r), ?_, ?_, fun g hg => ?_⟩, fun p w1 hA => ⟨hs.eraseIdx p, er_map _ _ _, by rw [er_map]; exact hA, fun g hg => h3 g (List.mem_of_mem_eraseIdx hg)⟩⟩
  · obtain ⟨g, hg, rfl⟩ := List.mem_map.mp hy
    exact Or.inl ⟨10, _, h3 g hg, by omega⟩
  · rw [in_map]
  · rw [in_map]; exact hA
  · by_cases hp : p ≤ hs.length
    · rcases (List.mem_insertIdx hp).mp hg with rfl | h4
      · exact hx
      · exact h3 g h4
    · rw [List.insertIdx_of_length_lt (by omega)] at hg
      exact h3 g hg
theorem HL.at {E : EE} {a : Nat} {l : List PR} {wq w : va_W} (h : HL E a l wq w) {k : Nat} {r : PR} (hk : l[k]? = some r) : ∃ (as : List Nat) (y : Nat), AL E a as w ∧ as.length = l.length ∧ as[k]? = some y ∧ (y, rqC E r) ∈ wq := by
  obtain ⟨hs, h1, h2, h3⟩ := h
  subst h1
  rw [List.getElem?_map] at hk
  obtain ⟨x, hx, rfl⟩ : ∃ x, hs[k]? = some x ∧ x.2 = r := by
    cases hm : hs[k]? with
    | none => rw [hm] at hk; cases hk
    | some x => rw [hm] at hk; exact ⟨x, rfl, Option.some.inj hk⟩
  exact ⟨hs.map Prod.fst, x.1, h2, by simp, by rw [List.getElem?_map, hx]; rfl, h3 x (List.mem_of_getElem? hx)⟩
/-! sets as numbers below 256 -/
theorem sb_get : ∀ s, s < 256 → ∀ k, k < 8 → nI s >>> (nI k &&& 31) &&& 1 = bI (s.testBit k) := by decide +kernel
theorem sb_or : ∀ s, s < 256 → ∀ k, k < 8 → nI s ||| 1 <<< (nI k &&& 31) = nI (s ||| 1 <<< k) := by decide +kernel
theorem sb_lt : ∀ s, s < 256 → ∀ k, k < 8 → s ||| 1 <<< k < 256 := by decide +kernel
theorem sb_gt {s k : Nat} (h : s.testBit k = false) : s < s ||| 1 <<< k := by
  have h1 : s ≤ s ||| 1 <<< k := Nat.left_le_or
  rcases Nat.lt_or_ge s (s ||| 1 <<< k) with h2 | h2
  · exact h2
  · have h3 : s ||| 1 <<< k = s := by omega
    have h4 := congrArg (fun x => Nat.testBit x k) h3
    simp [Nat.testBit_or, Nat.one_shiftLeft, Nat.testBit_two_pow_self, h] at h4
theorem sb_bit (s k j : Nat) : (s ||| 1 <<< k).testBit j = (s.testBit j || decide (k = j)) := by
  rw [Nat.testBit_or, Nat.one_shiftLeft, Nat.testBit_two_pow]
def unsUp (s : Nat) : Nat → Nat
  | 0 => 0
  | k + 1 => unsUp s k + (if s.testBit k = true then 0 else 1)
theorem unsUp_le (s : Nat) : ∀ n, unsUp s n ≤ n := by
  intro n
  induction n with
  | zero => exact Nat.le_refl _
  | succ n ih => unfold unsUp; split <;> omega
theorem unsUp_or {s k : Nat} (h : s.testBit k = false) : ∀ n, unsUp (s ||| 1 <<< k) n + (if k < n then 1 else 0) = unsUp s n := by
  intro n
  induction n with
  | zero => rfl
  | succ n ih =>
    unfold unsUp
    rw [sb_bit]
    by_cases c : k = n
    · subst c
      rw [if_neg (Nat.lt_irrefl _)] at ih
      simp [h]
      omega
    · have e : decide (k = n) = false := decide_eq_false c
      rw [e, Bool.or_false]
      by_cases c2 : k < n
      · rw [if_pos c2] at ih
        rw [if_pos (show k < n + 1 by omega)]
        omega
      · rw [if_neg c2] at ih
        rw [if_neg (show ¬ k < n + 1 by omega)]
        omega
/-! the search -/
def hG (l : List PR) (k : Nat) : PR := (l[k]?).getD r0
def dnUp (l : List PR) (s : Nat) : Nat → Bool
  | 0 => true
  | k + 1 => dnUp l s k && (s.testBit k || decide (rAns (hG l k) = (-1)))
def nxUp (l : List PR) (s : Nat) (r : PR) : Nat → Bool
  | 0 => true
  | k + 1 => nxUp l s r k && (!decide (¬ rAns (hG l k) = (-1) ∧ rAns (hG l k) < rSent r) || s.testBit k)
def hCan (l : List PR) (s v : Nat) (r : PR) : Bool := nxUp l s r l.length && decide (rAns r = (-1) ∨ rqTold (rK r) (rA r) (nI v) = rRes r)
def hBeh (r : PR) (v : Nat) : Nat := (rqBeh (rK r) (rA r) (rB r) (nI v)).toNatClampNeg
def lin (l : List PR) : Nat → Nat → Nat → Bool
  | 0, s, _ => dnUp l s l.length
  | n + 1, s, v => dnUp l s l.length || (List.range l.length).any (fun k => !s.testBit k && hCan l s v (hG l k) && lin l n (s ||| 1 <<< k) (hBeh (hG l k) v))
def LIN (l : List PR) (s v : Nat) : Bool := lin l 8 s v
def anyUp (l : List PR) (s v i : Nat) : Bool := (List.range i).any (fun k => !s.testBit k && hCan l s v (hG l k) && LIN l (s ||| 1 <<< k) (hBeh (hG l k) v))
theorem lin_st (l : List PR) : ∀ n s v, unsUp s l.length ≤ n → lin l (n + 1) s v = lin l n s v := by
  intro n
  induction n with
  | zero =>
    intro s v h
    show (dnUp l s l.length || (List.range l.length).any (fun k => !s.testBit k && hCan l s v (hG l k) && lin l 0 (s ||| 1 <<< k) (hBeh (hG l k) v))) = dnUp l s l.length
    rw [List.any_eq_false.mpr, Bool.or_false]
    intro k hk
    have hk2 := List.mem_range.mp hk
    cases hb : s.testBit k with
    | true => simp
    | false =>
      have := unsUp_or hb l.length
      rw [if_pos hk2] at this
      omega
  | succ n ih =>
    intro s v h
    have e : ∀ m, lin l (m + 1) s v = (dnUp l s l.length || (List.range l.length).any (fun k => !s.testBit k && hCan l s v (hG l k) && lin l m (s ||| 1 <<< k) (hBeh (hG l k) v))) := fun m => rfl
    rw [e (n + 1), e n]
    congr 1
    rw [Bool.eq_iff_iff, List.any_eq_true, List.any_eq_true]
    have hx : ∀ k, k ∈ List.range l.length → ((!s.testBit k && hCan l s v (hG l k) && lin l (n + 1) (s ||| 1 <<< k) (hBeh (hG l k) v)) = (!s.testBit k && hCan l s v (hG l k) && lin l n (s ||| 1 <<< k) (hBeh (hG l k) v))) := by
      intro k hk
      have hk2 := List.mem_range.mp hk
      cases hb : s.testBit k with
      | true => simp
      | false =>
        have := unsUp_or hb l.length
        rw [if_pos hk2] at this
        rw [ih _ _ (by omega)]
    constructor
    · rintro ⟨k, hk, hb⟩
      exact ⟨k, hk, by rw [← hx k hk]; exact hb⟩
    · rintro ⟨k, hk, hb⟩
      exact ⟨k, hk, by rw [hx k hk]; exact hb⟩
theorem LIN_e {l : List PR} (h : l.length ≤ 8) (s v : Nat) : LIN l s v = (dnUp l s l.length || anyUp l s v l.length) := by
  have h1 := lin_st l 8 s v (Nat.le_trans (unsUp_le _ _) h)
  unfold LIN
  rw [← h1]
  rfl
theorem any_0 (l : List PR) (s v : Nat) : anyUp l s v 0 = false := rfl
theorem any_s (l : List PR) (s v i : Nat) : anyUp l s v (i + 1) = (anyUp l s v i || (!s.testBit i && hCan l s v (hG l i) && LIN l (s ||| 1 <<< i) (hBeh (hG l i) v))) := by
  unfold anyUp
  rw [List.range_succ, List.any_append]
  simp
theorem any_in {l : List PR} {s v i n : Nat} (h : i < n) (h1 : s.testBit i = false) (h2 : hCan l s v (hG l i) = true) (h3 : LIN l (s ||| 1 <<< i) (hBeh (hG l i) v) = true) : anyUp l s v n = true := by
  unfold anyUp
  rw [List.any_eq_true]
  exact ⟨i, List.mem_range.mpr h, by rw [h1, h2, h3]; rfl⟩
/-! the memory of what was tried -/
def tb (f : Nat → Int64) (i : Nat) : Bool := decide (f (i / 64) >>> ((nI (i % 64)).toInt64 &&& 63) &&& 1 = 1)
theorem tb_sh : ∀ n, n < 64 → (((nI n).toInt64 &&& 63).toBitVec.smod 64).toNat = n := by decide +kernel
theorem tb_b {x : Int64} {n : Nat} (h : n < 64) : (x >>> ((nI n).toInt64 &&& 63) &&& 1 = 1) ↔ x.toBitVec.getLsbD n = true := by
  rw [← Int64.toBitVec_inj, Int64.toBitVec_and, Int64.toBitVec_shiftRight, BitVec.sshiftRight', tb_sh n h]
  show (x.toBitVec.sshiftRight n &&& 1#64 = 1#64) ↔ _
  rw [BitVec.and_one_eq_setWidth_ofBool_getLsbD, BitVec.getLsbD_sshiftRight]
  have e : (!decide (64 ≤ 0) && if n + 0 < 64 then x.toBitVec.getLsbD (n + 0) else x.toBitVec.msb) = x.toBitVec.getLsbD n := by
    rw [if_pos (by omega), Nat.add_zero]
    rfl
  rw [e]
  cases x.toBitVec.getLsbD n <;> decide
theorem tb_1 {n : Nat} (h : n < 64) : ((1 : Int64) <<< ((nI n).toInt64 &&& 63)).toBitVec = BitVec.twoPow 64 n := by
  rw [Int64.toBitVec_shiftLeft, BitVec.shiftLeft_eq', tb_sh n h]
  rfl
theorem tb_set (f : Nat → Int64) (i j : Nat) : tb (vp_updL f (i / 64) (f (i / 64) ||| 1 <<< ((nI (i % 64)).toInt64 &&& 63))) j = (decide (j = i) || tb f j) := by
  have hj := Nat.mod_lt j (show 0 < 64 by omega)
  have hi := Nat.mod_lt i (show 0 < 64 by omega)
  unfold tb
  by_cases c : j / 64 = i / 64
  · rw [c, pk_uLs, Bool.eq_iff_iff, Bool.or_eq_true, decide_eq_true_iff, decide_eq_true_iff, decide_eq_true_iff, tb_b hj, tb_b hj, Int64.toBitVec_or, BitVec.getLsbD_or, tb_1 hi, BitVec.getLsbD_twoPow, Bool.or_eq_true, Bool.and_eq_true, decide_eq_true_iff, decide_eq_true_iff]
    constructor
    · rintro (h | h)
      · exact Or.inr h
      · exact Or.inl (by omega)
    · rintro (h | h)
      · exact Or.inr ⟨by omega, by omega⟩
      · exact Or.inl h
  · rw [pk_uLn c, show decide (j = i) = false from decide_eq_false (fun h => c (by rw [h])), Bool.false_or]
abbrev hAt (s v : Nat) : Nat := s * 100 + v
/-- nothing is marked that could be gone on with -/
def TI (l : List PR) (f : Nat → Int64) (s : Nat) : Prop := ∀ s1 v1, s ≤ s1 → v1 < 100 → tb f (hAt s1 v1) = true → LIN l s1 v1 = false
def TS (f f1 : Nat → Int64) (s : Nat) : Prop := ∀ s1 v1, s1 < s → v1 < 100 → tb f1 (hAt s1 v1) = tb f (hAt s1 v1)
/-- in the midst of (s, v) -/
def TJ (l : List PR) (f : Nat → Int64) (s v : Nat) : Prop := ∀ s1 v1, s ≤ s1 → v1 < 100 → tb f (hAt s1 v1) = true → (s1 = s ∧ v1 = v) ∨ LIN l s1 v1 = false
theorem TJ.mark {l : List PR} {f : Nat → Int64} {s v : Nat} (h : TI l f s) (hv : v < 100) : TJ l (vp_updL f (hAt s v / 64) (f (hAt s v / 64) ||| 1 <<< ((nI (hAt s v % 64)).toInt64 &&& 63))) s v ∧ TS f (vp_updL f (hAt s v / 64) (f (hAt s v / 64) ||| 1 <<< ((nI (hAt s v % 64)).toInt64 &&& 63))) s := by
  refine ⟨fun s1 v1 h1 h2 h3 => ?_, fun s1 v1 h1 h2 => ?_⟩
  · rw [tb_set, Bool.or_eq_true, decide_eq_true_iff] at h3
    rcases h3 with h3 | h3
    · left
      have h4 : s1 * 100 + v1 = s * 100 + v := h3
      omega
    · exact Or.inr (h s1 v1 h1 h2 h3)
  · rw [tb_set, show decide (hAt s1 v1 = hAt s v) = false from decide_eq_false (fun h3 => by have h4 : s1 * 100 + v1 = s * 100 + v := h3; omega), Bool.false_or]
theorem TJ.call {l : List PR} {f f1 : Nat → Int64} {s v s2 : Nat} (h : TJ l f s v) (h2 : s < s2) (hs : TS f f1 s2) (hi : TI l f1 s2) : TJ l f1 s v := by
  intro s1 v1 h3 h4 h5
  rcases Nat.lt_or_ge s1 s2 with c | c
  · rw [hs s1 v1 c h4] at h5
    exact h s1 v1 h3 h4 h5
  · exact Or.inr (hi s1 v1 c h4 h5)
theorem TJ.pre {l : List PR} {f : Nat → Int64} {s v s2 : Nat} (h : TJ l f s v) (h2 : s < s2) : TI l f s2 := by
  intro s1 v1 h3 h4 h5
  rcases h s1 v1 (by omega) h4 h5 with h6 | h6
  · omega
  · exact h6
theorem TJ.done {l : List PR} {f : Nat → Int64} {s v : Nat} (h : TJ l f s v) (h2 : LIN l s v = false) : TI l f s := by
  intro s1 v1 h3 h4 h5
  rcases h s1 v1 h3 h4 h5 with ⟨rfl, rfl⟩ | h6
  · exact h2
  · exact h6
theorem TS.tr {f f1 f2 : Nat → Int64} {s s2 : Nat} (h : TS f f1 s) (h2 : s ≤ s2) (k : TS f1 f2 s2) : TS f f2 s := by
  intro s1 v1 h3 h4
  rw [k s1 v1 (by omega) h4, h s1 v1 h3 h4]
theorem TI.zero (l : List PR) : TI l (fun _ => 0) 0 := by
  intro s1 v1 _ _ h
  exfalso
  unfold tb at h
  rw [decide_eq_true_iff, tb_b (Nat.mod_lt _ (by omega))] at h
  simp at h
/-- the requests' values are small -/
def rvOK (R : List PR) : Prop := ∀ r ∈ R, ∃ a b, rA r = nI a ∧ rB r = nI b ∧ a < 100 ∧ b < 100
theorem beh_ok {r : PR} (h : ∃ a b, rA r = nI a ∧ rB r = nI b ∧ a < 100 ∧ b < 100) {v : Nat} (hv : v < 100) : rqBeh (rK r) (rA r) (rB r) (nI v) = nI (hBeh r v) ∧ hBeh r v < 100 := by
  obtain ⟨a, b, h1, h2, h3, h4⟩ := h
  have e : ∃ c, c < 100 ∧ rqBeh (rK r) (rA r) (rB r) (nI v) = nI c := by
    unfold rqBeh
    rw [h1, h2]
    split
    · exact ⟨a, h3, rfl⟩
    · split
      · split
        · exact ⟨b, h4, rfl⟩
        · exact ⟨v, hv, rfl⟩
      · exact ⟨v, hv, rfl⟩
  obtain ⟨c, hc, e⟩ := e
  unfold hBeh
  rw [e, nI_clamp (by omega)]
  exact ⟨rfl, hc⟩
theorem lcmp_1 {f : Nat → Int64} {i : Nat} : lg_cmp (f (i / 64) >>> ((nI (i % 64)).toInt64 &&& 63) &&& 1) 1 = 0 ↔ tb f i = true := by
  unfold tb
  rw [decide_eq_true_iff]
  generalize f (i / 64) >>> ((nI (i % 64)).toInt64 &&& 63) &&& 1 = x
  unfold lg_cmp
  constructor
  · intro h
    split at h
    · exact absurd h (by decide)
    · split at h
      · assumption
      · exact absurd h (by decide)
  · rintro rfl
    decide
theorem hG_e {l : List PR} {k : Nat} {r : PR} (h : l[k]? = some r) : hG l k = r := by unfold hG; rw [h]; rfl
theorem bI_a1 (b : Bool) : bI b &&& 1 = bI b := by cases b <;> decide
theorem bI_a0 (b : Bool) : bI b &&& 0 = 0 := by cases b <;> decide
theorem nx_1 {l : List PR} {s k : Nat} {r r1 : PR} (h : l[k]? = some r1) (hc : ¬ (¬ rAns r1 = (-1) ∧ rAns r1 < rSent r) ∨ s.testBit k = true) : bI (nxUp l s r k) &&& 1 = bI (nxUp l s r (k + 1)) := by
  rw [bI_a1, show nxUp l s r (k + 1) = (nxUp l s r k && (!decide (¬ rAns (hG l k) = (-1) ∧ rAns (hG l k) < rSent r) || s.testBit k)) from rfl, hG_e h]
  rcases hc with hc | hc
  · rw [decide_eq_false hc]; simp
  · rw [hc]; simp
theorem nx_0 {l : List PR} {s k : Nat} {r r1 : PR} (h : l[k]? = some r1) (hc : ¬ rAns r1 = (-1) ∧ rAns r1 < rSent r) (ht : ¬ s.testBit k = true) : bI (nxUp l s r k) &&& 0 = bI (nxUp l s r (k + 1)) := by
  rw [bI_a0, show nxUp l s r (k + 1) = (nxUp l s r k && (!decide (¬ rAns (hG l k) = (-1) ∧ rAns (hG l k) < rSent r) || s.testBit k)) from rfl, hG_e h, decide_eq_true hc, Bool.eq_false_iff.mpr ht]
  simp [bI]
theorem dn_1 {l : List PR} {s k : Nat} (hc : s.testBit k = true ∨ rAns (hG l k) = (-1)) : bI (dnUp l s k) &&& 1 = bI (dnUp l s (k + 1)) := by
  rw [bI_a1, show dnUp l s (k + 1) = (dnUp l s k && (s.testBit k || decide (rAns (hG l k) = (-1)))) from rfl]
  rcases hc with hc | hc
  · rw [hc]; simp
  · rw [decide_eq_true hc]; simp
theorem dn_0 {l : List PR} {s k : Nat} (ht : ¬ s.testBit k = true) (hc : ¬ rAns (hG l k) = (-1)) : bI (dnUp l s k) &&& 0 = bI (dnUp l s (k + 1)) := by
  rw [bI_a0, show dnUp l s (k + 1) = (dnUp l s k && (s.testBit k || decide (rAns (hG l k) = (-1)))) from rfl, decide_eq_false hc, Bool.eq_false_iff.mpr ht]
  simp [bI]
theorem any_n {l : List PR} {s v i : Nat} {r : PR} (hr : l[i]? = some r) (h : anyUp l s v i = false) (hc : s.testBit i = true ∨ hCan l s v r = false ∨ LIN l (s ||| 1 <<< i) (hBeh r v) = false) : anyUp l s v (i + 1) = false := by
  rw [any_s, h, hG_e hr, Bool.false_or]
  rcases hc with hc | hc | hc
  · rw [hc]; rfl
  · rw [hc]; simp
  · rw [hc]; simp
theorem can_n1 {l : List PR} {s v : Nat} {r : PR} (h : nxUp l s r l.length = false) : hCan l s v r = false := by unfold hCan; rw [h]; rfl
theorem can_n2 {l : List PR} {s v : Nat} {r : PR} (h1 : ¬ rAns r = (-1)) (h2 : ¬ rqTold (rK r) (rA r) (nI v) = rRes r) : hCan l s v r = false := by
  unfold hCan
  rw [decide_eq_false (fun z => z.elim h1 h2), Bool.and_false]
theorem can_y {l : List PR} {s v : Nat} {r : PR} (h : nxUp l s r l.length = true) (h1 : rAns r = (-1) ∨ rqTold (rK r) (rA r) (nI v) = rRes r) : hCan l s v r = true := by
  unfold hCan
  rw [h, decide_eq_true h1]
  rfl
theorem LIN_y {l : List PR} (h : l.length ≤ 8) {s v i : Nat} {r : PR} (hi : i < l.length) (hr : l[i]? = some r) (h1 : s.testBit i = false) (h2 : hCan l s v r = true) (h3 : LIN l (s ||| 1 <<< i) (hBeh r v) = true) : LIN l s v = true := by
  rw [LIN_e h, any_in hi h1 (by rw [hG_e hr]; exact h2) (by rw [hG_e hr]; exact h3), Bool.or_true]
theorem LIN_d {l : List PR} (h : l.length ≤ 8) {s v : Nat} (h1 : dnUp l s l.length = true) : LIN l s v = true := by rw [LIN_e h, h1, Bool.true_or]
theorem LIN_n {l : List PR} (h : l.length ≤ 8) {s v : Nat} (h1 : dnUp l s l.length = false) (h2 : anyUp l s v l.length = false) : LIN l s v = false := by rw [LIN_e h, h1, h2]; rfl
theorem uns_call {l : List PR} {s i d : Nat} (hi : i < l.length) (h : s.testBit i = false) (hd : unsUp s l.length ≤ d + 1) : unsUp (s ||| 1 <<< i) l.length ≤ d := by
  have := unsUp_or h l.length
  rw [if_pos hi] at this
  omega
theorem uns_0 {l : List PR} {s i : Nat} (hi : i < l.length) (h : s.testBit i = false) : ¬ unsUp s l.length ≤ 0 := by
  have := unsUp_or h l.length
  rw [if_pos hi] at this
  omega
theorem tbf {s k : Nat} (h : bI (s.testBit k) = 0) : s.testBit k = false := bI_0.mp h
/-- what holds of the requests in a history -/
def hOKl (l : List PR) : Prop := l.length ≤ 8 ∧ ∀ r ∈ l, rK r < 6 ∧ ∃ a b, rA r = nI a ∧ rB r = nI b ∧ a < 100 ∧ b < 100
theorem hOK_put {l : List PR} {r : PR} (h : hOKl l) (hr : rK r < 6 ∧ ∃ a b, rA r = nI a ∧ rB r = nI b ∧ a < 100 ∧ b < 100) : hOKl (hPut l r) := by
  refine ⟨(hPut_len h.1).2, fun x hx => ?_⟩
  rcases (List.mem_insertIdx (plc_le _ _ _)).mp (List.mem_of_mem_eraseIdx hx) with rfl | h1
  · exact hr
  · exact h.2 x h1
theorem hUp_ok {R : List PR} (h1 : rqOK R) (h2 : rvOK R) (ky : Nat) : ∀ k, k ≤ R.length → hOKl (hUp R ky k) := by
  intro k
  induction k with
  | zero => exact fun _ => ⟨Nat.zero_le _, fun r hr => absurd hr List.not_mem_nil⟩
  | succ k ih =>
    intro hk
    obtain ⟨r, hr⟩ := get_ex (l := R) (i := k) (by omega)
    have hm := List.mem_of_getElem? hr
    by_cases c : hIs ky r
    · rw [hUp_y hr c]
      exact hOK_put (ih (by omega)) ⟨(h1.2 r hm).2.1, h2 r hm⟩
    · rw [hUp_n hr c]
      exact ih (by omega)
