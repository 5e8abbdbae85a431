/-! how things lie in the cells: lists -/
/-- an element of a list of Objects: an object of ours, an array of ints, a small Integer -/
def okE (E : EE) (el : va_W) (y : Nat) : Prop := (∃ (ci : Nat) (fs : List Value), (y, ob ci fs) ∈ el ∧ ci < 17) ∨ (∃ (n : Nat) (f : Nat → Int32), (y, iA (aC E 0) n f) ∈ el) ∨ ∃ k, k < 256 ∧ y = aI E k
theorem okE.mono {E : EE} {el el' : va_W} {y : Nat} (h : ∀ q ∈ el, q ∈ el') (k : okE E el y) : okE E el' y := by
  rcases k with ⟨ci, fs, h1, h2⟩ | ⟨n, f, h1⟩ | k
  · exact Or.inl ⟨ci, fs, h _ h1, h2⟩
  · exact Or.inr (Or.inl ⟨n, f, h _ h1⟩)
  · exact Or.inr (Or.inr k)
theorem ca_ob : ∀ ci, ci < 17 → ∀ r : vw_C, Cl[ci]? = some r → Cond.castable r.1 "java/lang/Object" ∈ lw_tbl := by
  intro ci h r hr
  match ci, h with
  | 0, _ => cases hr; exact q2418
  | 1, _ => cases hr; exact q2419
  | 2, _ => cases hr; exact q2421
  | 3, _ => cases hr; exact q2422
  | 4, _ => cases hr; exact q2417
  | 5, _ => cases hr; exact q2423
  | 6, _ => cases hr; exact q2424
  | 7, _ => cases hr; exact q2426
  | 8, _ => cases hr; exact q2427
  | 9, _ => cases hr; exact q2428
  | 10, _ => cases hr; exact q2430
  | 11, _ => cases hr; exact q2433
  | 12, _ => cases hr; exact q2415
  | 13, _ => cases hr; exact q2435
  | 14, _ => cases hr; exact q2437
  | 15, _ => cases hr; exact q2420
  | 16, _ => cases hr; exact q2436
theorem any_ok {E : EE} {X : Fx} {cc : ByteArray} {own : String} {nL fr mc ms rl : Nat} (hX : Cx E X cc own nL fr mc ms rl) {ws el : va_W} {H : Heap} {locs : List Loc} {y : Nat} (hP : va_P E.1 Cl ws H) (hS : va_S (xA X) (xs X).heap H locs) (hel : ∀ q ∈ el, q ∈ ws) (h : okE E el y) : va_Any "java/lang/Object" (xs X) H y := by
  have hK := hX.2.2.2.2.2.2.2.2.1
  rcases h with ⟨ci, fs, h1, h2⟩ | ⟨n, f, h1⟩ | ⟨k, hk, rfl⟩
  · obtain ⟨q0, h0⟩ := List.mem_iff_getElem?.mp (hel _ h1)
    obtain ⟨r, hr⟩ : ∃ r, Cl[ci]? = some r := ⟨Cl[ci]'h2, List.getElem?_eq_getElem h2⟩
    exact va_rAny hK hP h0 hr (fun comp c0 e1 e2 => vb_asgC (cx_nst hX (ca_ob ci h2 r hr) rfl) comp c0 e1 e2)
  · have hc : H[y]? = some (vp_cell (aC E 0) (n, .inl f)) := sp_P.mp hP _ (hel _ h1)
    have hi : (xs X).vm.findClass "[I" = some (aC E 0) := (hK.2 0 (aC E 0, .int) rfl).2
    obtain ⟨kC, hkC, -⟩ := Vm.findClass_spec hi
    exact ⟨_, hc, rfl, ⟨kC, hkC⟩, fun comp e1 => vb_asgC (cx_nst hX q2447 rfl) comp _ e1 hi⟩
  · obtain ⟨cell, g1, g2, g3, g4⟩ := (cx_gs hX).2.2.2.2.2.2.2.2.2.2.1.1 k hk
    obtain ⟨kC, hkC, -⟩ := Vm.findClass_spec g3
    have hlt : aI E k < (xs X).heap.size := (Array.getElem?_eq_some_iff.mp g1).1
    exact ⟨cell, (hS.2.1 _ hlt g4).trans g1, g2, ⟨kC, hkC⟩, fun comp e1 => vb_asgC (cx_nst hX q2440 rfl) comp _ e1 g3⟩
/-- a list object at a: modCount m0, the array arr, the references as, in the cells w -/
def AB (E : EE) (a : Nat) (m0 : Int32) (arr : Nat) (as : List Nat) (w : va_W) : Prop := ∃ (cap : Nat) (f : Nat → Option Nat), as.length ≤ cap ∧ cap ≤ 100000 ∧ (∀ i, i < as.length → f i = as[i]?) ∧
  ((1 ≤ cap ∧ w = [(a, ob 15 [.int m0, .ref arr, .int (nI as.length)]), (arr, qA (aC E 2) cap f)]) ∨ (cap = 0 ∧ (arr = aX E 0 ∨ arr = aX E 1) ∧ w = [(a, ob 15 [.int m0, .ref arr, .int (nI as.length)])]))
/-- a list object at a, of the references as, in the cells w -/
def AL (E : EE) (a : Nat) (as : List Nat) (w : va_W) : Prop := ∃ (m0 : Int32) (arr : Nat), AB E a m0 arr as w
/-- all of them are in el -/
def okL (E : EE) (el : va_W) (as : List Nat) : Prop := ∀ y ∈ as, okE E el y
theorem AL.head {E : EE} {a : Nat} {as : List Nat} {w : va_W} (h : AL E a as w) : ∃ fs, (a, ob 15 fs) ∈ w := by
  obtain ⟨m0, arr, cap, f, -, -, -, ⟨-, h⟩ | ⟨-, -, h⟩⟩ := h
  · exact ⟨_, by rw [h]; exact List.mem_cons_self⟩
  · exact ⟨_, by rw [h]; exact List.mem_cons_self⟩
theorem AL.nil {E : EE} {a : Nat} {m0 : Int32} {arr : Nat} (h : arr = aX E 0 ∨ arr = aX E 1) : AL E a [] [(a, ob 15 [.int m0, .ref arr, .int 0])] :=
  ⟨m0, arr, 0, fun _ => none, Nat.le_refl _, by omega, fun i h => absurd h (by simp), Or.inr ⟨rfl, h, rfl⟩⟩
/-- lists and arrays, in numbers -/
theorem al_half {n : Nat} (hn : n ≤ 100000) : nI n >>> ((1 : Int32) &&& 31) = nI (n / 2) := by
  have k := pk_shrN (n := n) (by omega) ((1 : Int32) &&& 31) 1 (by decide)
  rw [Nat.pow_one] at k
  exact k
theorem al_grow {n : Nat} (hn : n ≤ 100000) : nI n + (if nI (n + 1) - nI n < nI n >>> ((1 : Int32) &&& 31) then nI n >>> ((1 : Int32) &&& 31) else nI (n + 1) - nI n) = nI (n + max 1 (n / 2)) := by
  have e1 : nI (n + 1) - nI n = nI 1 := by
    rw [pk_sub (by omega), Nat.add_sub_cancel_left]
  rw [al_half hn, e1]
  by_cases c : 1 < n / 2
  · rw [if_pos (nI_lt c (by omega)), nI_add, Nat.max_eq_right (by omega)]
  · rw [if_neg (nI_nlt (by omega) (by omega)), nI_add, Nat.max_eq_left (by omega)]
theorem al_min {a b : Nat} (ha : a < 2 ^ 31) (hb : b < 2 ^ 31) : (if nI b < nI a then nI b else nI a) = nI (min a b) := by
  by_cases c : b < a
  · rw [if_pos (nI_lt c ha), Nat.min_eq_right (by omega)]
  · rw [if_neg (nI_nlt (by omega) hb), Nat.min_eq_left (by omega)]
theorem al_max {a b : Nat} (ha : a < 2 ^ 31) (hb : b < 2 ^ 31) : (if nI a < nI b then nI b else nI a) = nI (max a b) := by
  by_cases c : a < b
  · rw [if_pos (nI_lt c hb), Nat.max_eq_right (by omega)]
  · rw [if_neg (nI_nlt (by omega) ha), Nat.max_eq_left (by omega)]
theorem al_cpy0 {α : Type} {f g : Nat → α} {n : Nat} (hn : n < 2 ^ 31) : va_cpy f g (0 : Int32).toNatClampNeg (0 : Int32).toNatClampNeg (nI n).toNatClampNeg = va_cpy f g 0 0 n := by
  rw [sb_cl0, nI_clamp hn]
theorem al_add {as : List Nat} {f : Nat → Option Nat} {x : Nat} (h : ∀ i, i < as.length → f i = as[i]?) : ∀ i, i < (as ++ [x]).length → va_up f as.length (some x) i = (as ++ [x])[i]? := by
  intro i hi
  rw [List.length_append, List.length_singleton] at hi
  by_cases c : i = as.length
  · subst c
    simp [va_up]
  · rw [List.getElem?_append_left (by omega), ← h i (by omega)]
    simp [va_up, c]
theorem al_cpy {as : List Nat} {f : Nat → Option Nat} {n : Nat} (hn : as.length ≤ n) (h : ∀ i, i < as.length → f i = as[i]?) : ∀ i, i < as.length → va_cpy f (fun _ => none) 0 0 n i = as[i]? := by
  intro i hi
  rw [pk_cpy_in (by omega) (by omega), ← h i hi]
  congr 1
  omega
theorem al_cpyN : va_cpy (fun _ => (none : Option Nat)) (fun _ => none) 0 0 0 = fun _ => none := by
  funext j
  exact pk_cpy_out (by omega)
theorem al_ins {as : List Nat} {f : Nat → Option Nat} {x k : Nat} (hk : k ≤ as.length) (h : ∀ i, i < as.length → f i = as[i]?) : ∀ i, i < (as.insertIdx k x).length → va_up (va_cpy f f k (k + 1) (as.length - k)) k (some x) i = (as.insertIdx k x)[i]? := by
  intro i hi
  rw [List.length_insertIdx, if_pos hk] at hi
  rw [List.getElem?_insertIdx]
  by_cases c : i < k
  · rw [if_pos c]
    have e : va_up (va_cpy f f k (k + 1) (as.length - k)) k (some x) i = f i := by
      have : i ≠ k := by omega
      simp only [va_up, if_neg this]
      exact pk_cpy_out (Or.inl (by omega))
    rw [e]
    exact h i (by omega)
  · rw [if_neg c]
    by_cases c2 : i = k
    · subst c2
      simp [va_up, hk]
    · rw [if_neg c2]
      simp only [va_up, if_neg c2]
      rw [pk_cpy_in (by omega) (by omega), show k + (i - (k + 1)) = i - 1 by omega]
      exact h (i - 1) (by omega)
theorem al_era {as : List Nat} {f : Nat → Option Nat} {k : Nat} (hk : k < as.length) (h : ∀ i, i < as.length → f i = as[i]?) : ∀ i, i < (as.eraseIdx k).length → va_up (va_cpy f f (k + 1) k (as.length - 1 - k)) (as.length - 1) none i = (as.eraseIdx k)[i]? := by
  intro i hi
  rw [List.length_eraseIdx, if_pos hk] at hi
  have e : va_up (va_cpy f f (k + 1) k (as.length - 1 - k)) (as.length - 1) none i = va_cpy f f (k + 1) k (as.length - 1 - k) i := by
    have : i ≠ as.length - 1 := by omega
    simp only [va_up, if_neg this]
  rw [e, List.getElem?_eraseIdx]
  by_cases c : i < k
  · rw [if_pos c, pk_cpy_out (Or.inl c)]
    exact h i (by omega)
  · rw [if_neg c, pk_cpy_in (by omega) (by omega), show k + 1 + (i - k) = i + 1 by omega]
    exact h (i + 1) (by omega)
theorem al_era1 {as : List Nat} {f : Nat → Option Nat} {k : Nat} (hk : k + 1 = as.length) (h : ∀ i, i < as.length → f i = as[i]?) : ∀ i, i < (as.eraseIdx k).length → va_up f (as.length - 1) none i = (as.eraseIdx k)[i]? := by
  intro i hi
  rw [List.length_eraseIdx, if_pos (by omega)] at hi
  rw [List.getElem?_eraseIdx, if_pos (by omega)]
  have : i ≠ as.length - 1 := by omega
  simp only [va_up, if_neg this]
  exact h i (by omega)
theorem okL.get {E : EE} {el : va_W} {as : List Nat} (h : okL E el as) {i y : Nat} (hy : as[i]? = some y) : okE E el y := h y (List.mem_iff_getElem?.mpr ⟨i, hy⟩)
theorem vo_1 {k : Nat} (hk : k < 128) : ¬ nI k < (-128) := by
  rw [Int32.lt_iff_toInt_lt, nI_toInt (by omega), show ((-128 : Int32)).toInt = -128 from rfl]; omega
theorem vo_2 {k : Nat} (hk : k < 128) : ¬ (127 : Int32) < nI k := by
  rw [Int32.lt_iff_toInt_lt, nI_toInt (by omega), show ((127 : Int32)).toInt = 127 from rfl]; omega
theorem vo_3 (k : Nat) : nI k + 128 = nI (k + 128) := nI_add k 128
theorem g_tq {E : EE} {l : Launch} {X : Fx} {cc : ByteArray} {own : String} {nL fr mc ms rl : Nat} {cs : List va_W} {kc ks pc : Nat} {lv : List (Nat × Value)} {rest : List Value} {t N : Nat} {f : Nat → Value} {C : String} (hX : Cx E X cc own nL fr mc ms rl) (hT : va_T (.object C) t N f (xA X) (xs X) (xs X).heap) {i : Int32} {v : Value} (hin : vp_in i N) (hv : f i.toNatClampNeg = v) (hdg : decode cc pc = .ok (.aaload, 1))
    (kk : G E l X cs kc ks (pc + 1) lv (v :: rest)) : G E l X cs kc ks pc lv (.int i :: .ref t :: rest) := fun H locs ls hP hD hS hl =>
  vb_tq hX.1 hX.2.1 hT hS hin hv hdg (kk H locs ls hP hD hS hl)
/-- a list object whose array has cap places (the empty one of all lists, if none) -/
def ALc (E : EE) (a : Nat) (as : List Nat) (cap : Nat) (w : va_W) : Prop := ∃ (m0 : Int32) (arr : Nat) (f : Nat → Option Nat), as.length ≤ cap ∧ cap ≤ 100000 ∧ (∀ i, i < as.length → f i = as[i]?) ∧
  ((1 ≤ cap ∧ w = [(a, ob 15 [.int m0, .ref arr, .int (nI as.length)]), (arr, qA (aC E 2) cap f)]) ∨ (cap = 0 ∧ arr = aX E 0 ∧ w = [(a, ob 15 [.int m0, .ref arr, .int (nI as.length)])]))
theorem ALc.al {E : EE} {a cap : Nat} {as : List Nat} {w : va_W} (h : ALc E a as cap w) : AL E a as w := by
  obtain ⟨m0, arr, f, h1, h2, h3, h4 | ⟨h4, h5, h6⟩⟩ := h
  · exact ⟨m0, arr, cap, f, h1, h2, h3, Or.inl h4⟩
  · exact ⟨m0, arr, cap, f, h1, h2, h3, Or.inr ⟨h4, Or.inl h5, h6⟩⟩
theorem ALc.head {E : EE} {a cap : Nat} {as : List Nat} {w : va_W} (h : ALc E a as cap w) : ∃ fs, (a, ob 15 fs) ∈ w := h.al.head
theorem ALc.nil {E : EE} {a : Nat} {m0 : Int32} : ALc E a [] 0 [(a, ob 15 [.int m0, .ref (aX E 0), .int 0])] := ⟨m0, _, fun _ => none, Nat.le_refl _, by omega, fun i h => absurd h (by simp), Or.inr ⟨rfl, rfl, rfl⟩⟩
/-- what an add does to the capacity, and what it costs -/
def al_cap (n cap : Nat) : Nat := if n < cap then cap else if cap = 0 then 10 else cap + max 1 (cap / 2)
def al_mc (n cap : Nat) : Nat := if n < cap then 0 else 1
def al_ms (n cap : Nat) : Nat := if n < cap then 0 else if cap = 0 then 10 else cap + max 1 (cap / 2)
theorem al_mc1 {n cap : Nat} (h : n < cap) : al_mc n cap = 0 := if_pos h
theorem al_ms1 {n cap : Nat} (h : n < cap) : al_ms n cap = 0 := if_pos h
theorem al_cap1 {n cap : Nat} (h : n < cap) : al_cap n cap = cap := if_pos h
theorem al_mc2 {n : Nat} : al_mc n n = 1 := if_neg (Nat.lt_irrefl _)
theorem al_ms2 {n : Nat} (h : 1 ≤ n) : al_ms n n = n + max 1 (n / 2) := by unfold al_ms; rw [if_neg (Nat.lt_irrefl _), if_neg (by omega)]
theorem al_cap2 {n : Nat} (h : 1 ≤ n) : al_cap n n = n + max 1 (n / 2) := by unfold al_cap; rw [if_neg (Nat.lt_irrefl _), if_neg (by omega)]
/-- of a fresh list of n elements: its capacity, the arrays made, their slots -/
def fl_cap (n : Nat) : Nat := if n = 0 then 0 else if n ≤ 10 then 10 else if n ≤ 15 then 15 else if n ≤ 22 then 22 else if n ≤ 33 then 33 else 49
def fl_mc (n : Nat) : Nat := if n = 0 then 0 else if n ≤ 10 then 1 else if n ≤ 15 then 2 else if n ≤ 22 then 3 else if n ≤ 33 then 4 else 5
def fl_ms (n : Nat) : Nat := if n = 0 then 0 else if n ≤ 10 then 10 else if n ≤ 15 then 25 else if n ≤ 22 then 47 else if n ≤ 33 then 80 else 129
theorem fl_step {n : Nat} (h : n < 49) : al_cap n (fl_cap n) = fl_cap (n + 1) ∧ fl_mc n + al_mc n (fl_cap n) = fl_mc (n + 1) ∧ fl_ms n + al_ms n (fl_cap n) = fl_ms (n + 1) :=
  (show ∀ n, n < 49 → al_cap n (fl_cap n) = fl_cap (n + 1) ∧ fl_mc n + al_mc n (fl_cap n) = fl_mc (n + 1) ∧ fl_ms n + al_ms n (fl_cap n) = fl_ms (n + 1) by decide) n h
theorem fl_le (n : Nat) : fl_mc n ≤ 5 ∧ fl_ms n ≤ 129 ∧ fl_cap n ≤ 49 := by
  unfold fl_mc fl_ms fl_cap
  refine ⟨?_, ?_, ?_⟩ <;> (repeat' split) <;> omega
