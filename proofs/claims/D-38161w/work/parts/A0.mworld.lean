/-! the world: small methods, beat, lead -/
/-- the indices of an array of references -/
abbrev idA (as : List Nat) : Nat → Option Nat := fun j => as[j]?
/-- votes: bits below sz -/
def vOK (sz : Nat) (v : Int32) : Prop := ∃ n, n < 2 ^ sz ∧ v = nI n
theorem vOK_bit {sz : Nat} {v : Int32} (h5 : sz ≤ 5) (h : vOK sz v) : bitC v = vtUp v sz := by
  obtain ⟨n, hn, rfl⟩ := h
  exact bitC_v sz h5 n hn
theorem vOK_me : ∀ sz, sz ≤ 5 → ∀ me, me < sz → (1 <<< (nI me &&& 31) : Int32) = nI (2 ^ me) := by decide +kernel
theorem vOK_cand {sz me : Nat} (h5 : sz ≤ 5) (h : me < sz) : vOK sz (1 <<< (nI me &&& 31)) := ⟨2 ^ me, Nat.pow_lt_pow_right (by decide) h, vOK_me sz h5 me h⟩
theorem vOK_or1 : ∀ sz, sz ≤ 5 → ∀ n, n < 2 ^ sz → ∀ me, me < sz → (nI n ||| (1 <<< (nI me &&& 31)) : Int32) = nI (n ||| 2 ^ me) := by decide +kernel
theorem vOK_or {sz me : Nat} {v : Int32} (h5 : sz ≤ 5) (h : vOK sz v) (hm : me < sz) : vOK sz (v ||| (1 <<< (nI me &&& 31))) := by
  obtain ⟨n, hn, rfl⟩ := h
  refine ⟨n ||| 2 ^ me, Nat.or_lt_two_pow hn (Nat.pow_lt_pow_right (by decide) hm), vOK_or1 sz h5 n hn me hm⟩
/-- the set of those that keep an entry, and how many they are -/
def kpS (me : Nat) (f : Nat → Bool) : Nat → Int32
  | 0 => 1 <<< (nI me &&& 31)
  | k + 1 => kpS me f k ||| (if k = me then (0 : Int32) else if f k then (1 : Int32) <<< (nI k &&& 31) else 0)
def kpC (me : Nat) (f : Nat → Bool) : Nat → Nat
  | 0 => 1
  | k + 1 => kpC me f k + (if k = me then 0 else if f k then 1 else 0)
theorem kpS_congr {me : Nat} {f g : Nat → Bool} : ∀ k, (∀ j, j < k → f j = g j) → kpS me f k = kpS me g k ∧ kpC me f k = kpC me g k := by
  intro k
  induction k with
  | zero => intro _; exact ⟨rfl, rfl⟩
  | succ k ih =>
    intro h
    obtain ⟨h1, h2⟩ := ih (fun j hj => h j (by omega))
    unfold kpS kpC
    rw [h1, h2, h k (by omega)]
    exact ⟨rfl, rfl⟩
theorem kpS_all : ∀ sz, sz ≤ 5 → ∀ me, me < sz → ∀ n, n < 32 → vtUp (kpS me (fun k => n.testBit k) sz) sz = nI (kpC me (fun k => n.testBit k) sz) ∧ (kpS me (fun k => n.testBit k) sz).toNatClampNeg < 2 ^ sz ∧ kpS me (fun k => n.testBit k) sz = nI (kpS me (fun k => n.testBit k) sz).toNatClampNeg := by decide +kernel
theorem mask5 (f : Nat → Bool) : ∃ n, n < 32 ∧ ∀ k, k < 5 → n.testBit k = f k := by
  have h : ∀ b0 b1 b2 b3 b4 : Bool, ∃ n, n < 32 ∧ n.testBit 0 = b0 ∧ n.testBit 1 = b1 ∧ n.testBit 2 = b2 ∧ n.testBit 3 = b3 ∧ n.testBit 4 = b4 := by
    intro b0 b1 b2 b3 b4
    refine ⟨(if b0 then 1 else 0) + (if b1 then 2 else 0) + (if b2 then 4 else 0) + (if b3 then 8 else 0) + (if b4 then 16 else 0), ?_⟩
    cases b0 <;> cases b1 <;> cases b2 <;> cases b3 <;> cases b4 <;> decide
  obtain ⟨n, h0, h1, h2, h3, h4, h5⟩ := h (f 0) (f 1) (f 2) (f 3) (f 4)
  refine ⟨n, h0, fun k hk => ?_⟩
  rcases (show k = 0 ∨ k = 1 ∨ k = 2 ∨ k = 3 ∨ k = 4 by omega) with rfl | rfl | rfl | rfl | rfl <;> assumption
def kpB (M : PM) (n k : Nat) : Int32 := kpS (mN M) (fun q => decide (n ≤ mKp M q)) k
theorem kpC_up (M : PM) (n : Nat) : ∀ k, kpC (mN M) (fun q => decide (n ≤ mKp M q)) k = kpUp M n k := by
  intro k
  induction k with
  | zero => rfl
  | succ k ih =>
    unfold kpC kpUp
    rw [ih]
    by_cases h : k = mN M
    · rw [if_pos h, if_pos h]
    · rw [if_neg h, if_neg h]
      by_cases h2 : n ≤ mKp M k <;> simp [h2]
theorem kpB_v {M : PM} {n sz : Nat} (h5 : sz ≤ 5) (hm : mN M < sz) : vOK sz (kpB M n sz) ∧ vtUp (kpB M n sz) sz = nI (kpUp M n sz) := by
  obtain ⟨z, hz, hb⟩ := mask5 (fun q => decide (n ≤ mKp M q))
  obtain ⟨e1, e2⟩ := kpS_congr (me := mN M) (f := fun q => decide (n ≤ mKp M q)) (g := fun k => z.testBit k) sz (fun j hj => (hb j (by omega)).symm)
  obtain ⟨a1, a2, a3⟩ := kpS_all sz h5 (mN M) hm z hz
  have e3 : kpB M n sz = kpS (mN M) (fun k => z.testBit k) sz := e1
  rw [e3]
  refine ⟨⟨_, a2, a3⟩, ?_⟩
  rw [a1, ← e2, kpC_up]
theorem kpB_s {M : PM} {j i : Nat} {fk : Nat → Int32} (h : fk i = nI (mKp M i)) (h1 : i < 100000) (h2 : mN M < 100000) (h3 : mKp M i < 100000) (h4 : j < 100000) : kpB M j i ||| (if nI i = nI (mN M) then (0 : Int32) else if fk i < nI j then 0 else (1 : Int32) <<< (nI i &&& 31)) = kpB M j (i + 1) := by
  have e1 : nI i = nI (mN M) ↔ i = mN M := nI_eq (by omega) (by omega)
  have e2 : nI (mKp M i) < nI j ↔ mKp M i < j := nI_ltI (by omega) (by omega)
  rw [h]
  unfold kpB
  conv => rhs; unfold kpS
  simp only [e1, e2]
  by_cases c1 : i = mN M
  · rw [if_pos c1, if_pos c1]
  · rw [if_neg c1, if_neg c1]
    by_cases c2 : mKp M i < j
    · rw [if_pos c2, if_neg (by simp; omega)]
    · rw [if_neg c2, if_pos (by simp; omega)]

set_option maxHeartbeats 4000000 in
theorem mt_AL_addT (E : EE) (l : Launch) (a : Nat) (as : List Nat) (w : va_W) (x : Nat) (el : va_W) (N : Nat) (hw : AL E a as w) (hN : (as.length ≤ N)) (hN2 : (N ≤ 60000)) (hx : (okE E el x)) (hok : (okL E el as)) : Mt E l yJ2_add_2 cJ2_add_2 2 (some .boolean) 6 1 (max 10 (N + N / 2)) 150 [.ref a, .ref x] [w, el] (fun (v_ : Option Value) (cs_ : List va_W) => ∃ (w1 : va_W), AL E a (as ++ [x]) w1 ∧ v_ = some (.int 1) ∧ cs_ = [w1, el]) := by
  obtain ⟨m0, arr, cap, f, h1, h2, h3, hc⟩ := hw
  have he : nI (as ++ [x]).length = nI (as.length + 1) := by rw [List.length_append, List.length_singleton]
  have hk : ∀ i, i < as.length → ∀ y, f i = some y → okE E el y := fun i hi y hy => hok.get (i := i) (by rw [← h3 i hi]; exact hy)
  have hc4 : (as.length < cap ∧ w = [(a, ob 15 [.int m0, .ref arr, .int (nI as.length)]), (arr, qA (aC E 2) cap f)]) ∨ (as.length = cap ∧ 1 ≤ cap ∧ w = [(a, ob 15 [.int m0, .ref arr, .int (nI as.length)]), (arr, qA (aC E 2) cap f)]) ∨ (as = [] ∧ arr = aX E 0 ∧ w = [(a, ob 15 [.int m0, .ref arr, .int (nI as.length)])]) ∨ (as = [] ∧ arr = aX E 1 ∧ w = [(a, ob 15 [.int m0, .ref arr, .int (nI as.length)])]) := by
    rcases hc with ⟨h4, h5⟩ | ⟨h4, h5, h6⟩
    · rcases Nat.lt_or_ge as.length cap with h6 | h6
      · exact Or.inl ⟨h6, h5⟩
      · exact Or.inr (Or.inl ⟨by omega, h4, h5⟩)
    · have h7 : as = [] := List.eq_nil_of_length_eq_zero (by omega)
      rcases h5 with h5 | h5
      · exact Or.inr (Or.inr (Or.inl ⟨h7, h5, h6⟩))
      · exact Or.inr (Or.inr (Or.inr ⟨h7, h5, h6⟩))
  rcases hc4 with ⟨h5, rfl⟩ | ⟨rfl, h4, rfl⟩ | ⟨rfl, harr0, rfl⟩ | ⟨rfl, harr1, rfl⟩
  · refine Mt.of (by decide) (Nat.le_of_ble_eq_true rfl) (fun X hX hR hin => ?_)
    refine g_lv1 (lv1 := [(0, .ref a), (1, .ref x)]) rfl ?_
    refine g_fl (cs1 := [[(a, ob 15 [.int m0, .ref arr, .int (nI as.length)])], [(arr, qA (aC E 2) cap f)], el]) rfl ?_
    refine g_aload_n hX (pc := 0) dJ2_add_2_0 0 rfl ?_
    refine g_dup hX (pc := 1) dJ2_add_2_1 rfl ?_
    refine g_getU hX (pc := 2) fcJ2 0 rfl 0 (by decide) q147 q146 (v := .int m0) rfl dJ2_add_2_2 ?_
    refine g_iconst hX (pc := 5) (v := 1) dJ2_add_2_5 (by decide) ?_
    refine g_iadd hX (pc := 6) dJ2_add_2_6 ?_
    refine g_putU hX (pc := 7) fcJ2 0 (fs1 := [.int (m0 + 1), .ref arr, .int (nI as.length)]) (cs1 := [[(a, ob 15 [.int (m0 + 1), .ref arr, .int (nI as.length)])], [(arr, qA (aC E 2) cap f)], el]) rfl 0 (by decide) q147 q146 rfl rfl rfl (Nat.le_of_ble_eq_true rfl) rfl rfl dJ2_add_2_7 ?_
    refine g_aload_n hX (pc := 10) dJ2_add_2_10 0 rfl ?_
    refine g_aload_n hX (pc := 11) dJ2_add_2_11 1 rfl ?_
    refine g_aload_n hX (pc := 12) dJ2_add_2_12 0 rfl ?_
    refine g_get hX (pc := 13) fcJ2 0 rfl 1 (by decide) q140 rfl (v := .ref arr) rfl dJ2_add_2_13 ?_
    refine g_aload_n hX (pc := 16) dJ2_add_2_16 0 rfl ?_
    refine g_get hX (pc := 17) fcJ2 0 rfl 2 (by decide) q143 rfl (v := .int (nI as.length)) rfl dJ2_add_2_17 ?_
    refine g_callV hX (pc := 20) kJ2_add_3 (mt_add3 E l a (m0 + 1) arr as.length cap f x el (h5) (h2) (hx)) q881 fcJ2 (sp_mem (i := 0) rfl) [0, 0, 0] rfl rfl rfl (Nat.le_of_ble_eq_true rfl) (Nat.le_of_ble_eq_true rfl) (Nat.le_of_ble_eq_true rfl) (by omega) (by omega) dJ2_add_2_20 (fun v w1 hp => ?_)
    obtain ⟨rfl, rfl⟩ := hp
    refine g_nrm (cs1 := [[(a, ob 15 [.int (m0 + 1), .ref arr, .int (nI (as.length + 1))])], [(arr, qA (aC E 2) cap (va_up f as.length (some x)))], el]) (st1 := []) rfl rfl ?_
    refine g_iconst hX (pc := 23) (v := 1) dJ2_add_2_23 (by decide) ?_
    refine g_cs (cs1 := [[(a, ob 15 [.int (m0 + 1), .ref arr, .int (nI (List.length (as ++ [x])))])], [(arr, qA (aC E 2) cap (va_up f as.length (some x)))], el]) (by rw [he]) ?_
    refine g_pk [0, 0] rfl ?_
    refine g_fl (cs1 := [[(a, ob 15 [.int (m0 + 1), .ref arr, .int (nI (List.length (as ++ [x])))]), (arr, qA (aC E 2) cap (va_up f as.length (some x)))], el]) rfl ?_
    refine g_zret hX (pc := 24) hR rfl ?_ (by omega) (by omega) dJ2_add_2_24
    exact ⟨_, ⟨m0 + 1, _, cap, va_up f as.length (some x), by rw [List.length_append, List.length_singleton]; omega, h2, al_add h3, Or.inl ⟨by omega, rfl⟩⟩, rfl, rfl⟩
  · refine Mt.of (by decide) (Nat.le_of_ble_eq_true rfl) (fun X hX hR hin => ?_)
    refine g_lv1 (lv1 := [(0, .ref a), (1, .ref x)]) rfl ?_
    refine g_fl (cs1 := [[(a, ob 15 [.int m0, .ref arr, .int (nI as.length)])], [(arr, qA (aC E 2) as.length f)], el]) rfl ?_
    refine g_aload_n hX (pc := 0) dJ2_add_2_0 0 rfl ?_
    refine g_dup hX (pc := 1) dJ2_add_2_1 rfl ?_
    refine g_getU hX (pc := 2) fcJ2 0 rfl 0 (by decide) q147 q146 (v := .int m0) rfl dJ2_add_2_2 ?_
    refine g_iconst hX (pc := 5) (v := 1) dJ2_add_2_5 (by decide) ?_
    refine g_iadd hX (pc := 6) dJ2_add_2_6 ?_
    refine g_putU hX (pc := 7) fcJ2 0 (fs1 := [.int (m0 + 1), .ref arr, .int (nI as.length)]) (cs1 := [[(a, ob 15 [.int (m0 + 1), .ref arr, .int (nI as.length)])], [(arr, qA (aC E 2) as.length f)], el]) rfl 0 (by decide) q147 q146 rfl rfl rfl (Nat.le_of_ble_eq_true rfl) rfl rfl dJ2_add_2_7 ?_
    refine g_aload_n hX (pc := 10) dJ2_add_2_10 0 rfl ?_
    refine g_aload_n hX (pc := 11) dJ2_add_2_11 1 rfl ?_
    refine g_aload_n hX (pc := 12) dJ2_add_2_12 0 rfl ?_
    refine g_get hX (pc := 13) fcJ2 0 rfl 1 (by decide) q140 rfl (v := .ref arr) rfl dJ2_add_2_13 ?_
    refine g_aload_n hX (pc := 16) dJ2_add_2_16 0 rfl ?_
    refine g_get hX (pc := 17) fcJ2 0 rfl 2 (by decide) q143 rfl (v := .int (nI as.length)) rfl dJ2_add_2_17 ?_
    refine g_callV hX (pc := 20) kJ2_add_3 (mt_add3g E l a (m0 + 1) arr as.length f x el (by omega) (by omega) (hx) (hk)) q881 fcJ2 (sp_mem (i := 0) rfl) [0, 0, 0] rfl rfl rfl (Nat.le_of_ble_eq_true rfl) (Nat.le_of_ble_eq_true rfl) (Nat.le_of_ble_eq_true rfl) (by omega) (by omega) dJ2_add_2_20 (fun v w1 hp => ?_)
    obtain ⟨q1, rfl, rfl⟩ := hp
    refine g_nrm (cs1 := [[(a, ob 15 [.int (m0 + 1), .ref q1, .int (nI (as.length + 1))])], [(q1, qA (aC E 2) (as.length + max 1 (as.length / 2)) (va_up (va_cpy f (fun _ => none) 0 0 as.length) as.length (some x)))], el]) (st1 := []) rfl rfl ?_
    refine g_iconst hX (pc := 23) (v := 1) dJ2_add_2_23 (by decide) ?_
    refine g_cs (cs1 := [[(a, ob 15 [.int (m0 + 1), .ref q1, .int (nI (List.length (as ++ [x])))])], [(q1, qA (aC E 2) (as.length + max 1 (as.length / 2)) (va_up (va_cpy f (fun _ => none) 0 0 as.length) as.length (some x)))], el]) (by rw [he]) ?_
    refine g_pk [0, 0] rfl ?_
    refine g_fl (cs1 := [[(a, ob 15 [.int (m0 + 1), .ref q1, .int (nI (List.length (as ++ [x])))]), (q1, qA (aC E 2) (as.length + max 1 (as.length / 2)) (va_up (va_cpy f (fun _ => none) 0 0 as.length) as.length (some x)))], el]) rfl ?_
    refine g_zret hX (pc := 24) hR rfl ?_ (by omega) (by omega) dJ2_add_2_24
    exact ⟨_, ⟨m0 + 1, _, _, va_up (va_cpy f (fun _ => none) 0 0 as.length) as.length (some x), by rw [List.length_append, List.length_singleton]; omega, by omega, al_add (al_cpy (Nat.le_refl _) h3), Or.inl ⟨by omega, rfl⟩⟩, rfl, rfl⟩
  · refine Mt.of (by decide) (Nat.le_of_ble_eq_true rfl) (fun X hX hR hin => ?_)
    refine g_lv1 (lv1 := [(0, .ref a), (1, .ref x)]) rfl ?_
    refine g_fl (cs1 := [[(a, ob 15 [.int m0, .ref arr, .int 0])], el]) rfl ?_
    refine g_aload_n hX (pc := 0) dJ2_add_2_0 0 rfl ?_
    refine g_dup hX (pc := 1) dJ2_add_2_1 rfl ?_
    refine g_getU hX (pc := 2) fcJ2 0 rfl 0 (by decide) q147 q146 (v := .int m0) rfl dJ2_add_2_2 ?_
    refine g_iconst hX (pc := 5) (v := 1) dJ2_add_2_5 (by decide) ?_
    refine g_iadd hX (pc := 6) dJ2_add_2_6 ?_
    refine g_putU hX (pc := 7) fcJ2 0 (fs1 := [.int (m0 + 1), .ref arr, .int 0]) (cs1 := [[(a, ob 15 [.int (m0 + 1), .ref arr, .int 0])], el]) rfl 0 (by decide) q147 q146 rfl rfl rfl (Nat.le_of_ble_eq_true rfl) rfl rfl dJ2_add_2_7 ?_
    refine g_aload_n hX (pc := 10) dJ2_add_2_10 0 rfl ?_
    refine g_aload_n hX (pc := 11) dJ2_add_2_11 1 rfl ?_
    refine g_aload_n hX (pc := 12) dJ2_add_2_12 0 rfl ?_
    refine g_get hX (pc := 13) fcJ2 0 rfl 1 (by decide) q140 rfl (v := .ref arr) rfl dJ2_add_2_13 ?_
    refine g_aload_n hX (pc := 16) dJ2_add_2_16 0 rfl ?_
    refine g_get hX (pc := 17) fcJ2 0 rfl 2 (by decide) q143 rfl (v := .int 0) rfl dJ2_add_2_17 ?_
    refine g_callV hX (pc := 20) kJ2_add_3 (mt_add3D E l a (m0 + 1) arr x el (harr0) (hx)) q881 fcJ2 (sp_mem (i := 0) rfl) [0, 0] rfl rfl rfl (Nat.le_of_ble_eq_true rfl) (Nat.le_of_ble_eq_true rfl) (Nat.le_of_ble_eq_true rfl) (by omega) (by omega) dJ2_add_2_20 (fun v w1 hp => ?_)
    obtain ⟨q1, rfl, rfl⟩ := hp
    refine g_nrm (cs1 := [[(a, ob 15 [.int (m0 + 1), .ref q1, .int 1])], [(q1, qA (aC E 2) 10 (va_up (fun _ => none) 0 (some x)))], el]) (st1 := []) rfl rfl ?_
    refine g_iconst hX (pc := 23) (v := 1) dJ2_add_2_23 (by decide) ?_
    refine g_cs (cs1 := [[(a, ob 15 [.int (m0 + 1), .ref q1, .int (nI (List.length (([] : List Nat) ++ [x])))])], [(q1, qA (aC E 2) 10 (va_up (fun _ => none) 0 (some x)))], el]) (rfl) ?_
    refine g_pk [0, 0] rfl ?_
    refine g_fl (cs1 := [[(a, ob 15 [.int (m0 + 1), .ref q1, .int (nI (List.length (([] : List Nat) ++ [x])))]), (q1, qA (aC E 2) 10 (va_up (fun _ => none) 0 (some x)))], el]) rfl ?_
    refine g_zret hX (pc := 24) hR rfl ?_ (by omega) (by omega) dJ2_add_2_24
    exact ⟨_, ⟨m0 + 1, _, 10, _, by simp, by omega, al_add (as := []) (fun i hi => absurd hi (Nat.not_lt_zero _)), Or.inl ⟨by omega, rfl⟩⟩, rfl, rfl⟩
  · refine Mt.of (by decide) (Nat.le_of_ble_eq_true rfl) (fun X hX hR hin => ?_)
    refine g_lv1 (lv1 := [(0, .ref a), (1, .ref x)]) rfl ?_
    refine g_fl (cs1 := [[(a, ob 15 [.int m0, .ref arr, .int 0])], el]) rfl ?_
    refine g_aload_n hX (pc := 0) dJ2_add_2_0 0 rfl ?_
    refine g_dup hX (pc := 1) dJ2_add_2_1 rfl ?_
    refine g_getU hX (pc := 2) fcJ2 0 rfl 0 (by decide) q147 q146 (v := .int m0) rfl dJ2_add_2_2 ?_
    refine g_iconst hX (pc := 5) (v := 1) dJ2_add_2_5 (by decide) ?_
    refine g_iadd hX (pc := 6) dJ2_add_2_6 ?_
    refine g_putU hX (pc := 7) fcJ2 0 (fs1 := [.int (m0 + 1), .ref arr, .int 0]) (cs1 := [[(a, ob 15 [.int (m0 + 1), .ref arr, .int 0])], el]) rfl 0 (by decide) q147 q146 rfl rfl rfl (Nat.le_of_ble_eq_true rfl) rfl rfl dJ2_add_2_7 ?_
    refine g_aload_n hX (pc := 10) dJ2_add_2_10 0 rfl ?_
    refine g_aload_n hX (pc := 11) dJ2_add_2_11 1 rfl ?_
    refine g_aload_n hX (pc := 12) dJ2_add_2_12 0 rfl ?_
    refine g_get hX (pc := 13) fcJ2 0 rfl 1 (by decide) q140 rfl (v := .ref arr) rfl dJ2_add_2_13 ?_
    refine g_aload_n hX (pc := 16) dJ2_add_2_16 0 rfl ?_
    refine g_get hX (pc := 17) fcJ2 0 rfl 2 (by decide) q143 rfl (v := .int 0) rfl dJ2_add_2_17 ?_
    refine g_callV hX (pc := 20) kJ2_add_3 (mt_add3E E l a (m0 + 1) arr x el (harr1) (hx)) q881 fcJ2 (sp_mem (i := 0) rfl) [0, 0] rfl rfl rfl (Nat.le_of_ble_eq_true rfl) (Nat.le_of_ble_eq_true rfl) (Nat.le_of_ble_eq_true rfl) (by omega) (by omega) dJ2_add_2_20 (fun v w1 hp => ?_)
    obtain ⟨q1, rfl, rfl⟩ := hp
    refine g_nrm (cs1 := [[(a, ob 15 [.int (m0 + 1), .ref q1, .int 1])], [(q1, qA (aC E 2) 1 (va_up (fun _ => none) 0 (some x)))], el]) (st1 := []) rfl rfl ?_
    refine g_iconst hX (pc := 23) (v := 1) dJ2_add_2_23 (by decide) ?_
    refine g_cs (cs1 := [[(a, ob 15 [.int (m0 + 1), .ref q1, .int (nI (List.length (([] : List Nat) ++ [x])))])], [(q1, qA (aC E 2) 1 (va_up (fun _ => none) 0 (some x)))], el]) (rfl) ?_
    refine g_pk [0, 0] rfl ?_
    refine g_fl (cs1 := [[(a, ob 15 [.int (m0 + 1), .ref q1, .int (nI (List.length (([] : List Nat) ++ [x])))]), (q1, qA (aC E 2) 1 (va_up (fun _ => none) 0 (some x)))], el]) rfl ?_
    refine g_zret hX (pc := 24) hR rfl ?_ (by omega) (by omega) dJ2_add_2_24
    exact ⟨_, ⟨m0 + 1, _, 1, _, by simp, by omega, al_add (as := []) (fun i hi => absurd hi (Nat.not_lt_zero _)), Or.inl ⟨by omega, rfl⟩⟩, rfl, rfl⟩

set_option maxHeartbeats 4000000 in
theorem mt_W_isMost (E : EE) (l : Launch) (wd : Nat) (sz : Nat) (ma : Nat) (lb : Nat) (nw : Int32) (lo : Int32) (r0 : Nat) (r1 : Nat) (r2 : Nat) (r3 : Nat) (mo : Nat) (v : Int32) (h5 : (sz ≤ 5)) (hv : (vOK sz v)) : Mt E l yX4_isMost cX4_isMost 2 (some .boolean) 2 0 0 21 [.ref wd, .int v] [[(wd, ob 3 [.int (nI sz), .ref ma, .ref lb, .int nw, .int lo, .ref r0, .ref r1, .ref r2, .ref r3, .ref mo])]] (fun (v_ : Option Value) (cs_ : List va_W) => v_ = some (.int (if isMost sz v then 1 else 0)) ∧ cs_ = [[(wd, ob 3 [.int (nI sz), .ref ma, .ref lb, .int nw, .int lo, .ref r0, .ref r1, .ref r2, .ref r3, .ref mo])]]) := by
  refine Mt.of (by decide) (Nat.le_of_ble_eq_true rfl) (fun X hX hR hin => ?_)
  refine g_lv1 (lv1 := [(0, .ref wd), (1, .int v)]) rfl ?_
  refine g_iconst hX (pc := 0) (v := 2) dX4_isMost_0 (by decide) ?_
  refine g_iload_n hX (pc := 1) dX4_isMost_1 1 rfl ?_
  refine g_callS hX (pc := 2) kJ18_bitCount (mt_bitCount E l v) q1945 [] rfl rfl rfl (Nat.le_of_ble_eq_true rfl) (Nat.le_of_ble_eq_true rfl) (Nat.le_of_ble_eq_true rfl) (Nat.le_of_ble_eq_true rfl) (Nat.le_of_ble_eq_true rfl) dX4_isMost_2 (fun v w1 hp => ?_)
  obtain ⟨rfl, rfl⟩ := hp
  refine g_nrm (cs1 := [[(wd, ob 3 [.int (nI sz), .ref ma, .ref lb, .int nw, .int lo, .ref r0, .ref r1, .ref r2, .ref r3, .ref mo])]]) (st1 := [.int (bitC v), .int 2]) rfl rfl ?_
  refine g_imul hX (pc := 5) dX4_isMost_5 ?_
  refine g_aload_n hX (pc := 6) dX4_isMost_6 0 rfl ?_
  refine g_get hX (pc := 7) fcX4 0 rfl 0 (by decide) q1739 rfl (v := .int (nI sz)) rfl dX4_isMost_7 ?_
  refine g_val (v := if (2 * (bitC v)) ≤ (nI sz) then 0 else 1) (pcJ := 18) (st1 := []) (fun hj1 => ?_) ?_
  · refine g_icmp_le hX (pc := 10) (tgt := 17) dX4_isMost_10 rfl (fun c2 => ?_) (fun c2 => ?_)
    · refine g_iconst hX (pc := 17) (v := 0) dX4_isMost_17 (by decide) ?_
      exact hj1 _ (by rw [if_pos c2])
    · refine g_iconst hX (pc := 13) (v := 1) dX4_isMost_13 (by decide) ?_
      refine g_goto hX (pc := 14) (tgt := 18) dX4_isMost_14 rfl ?_
      exact hj1 _ (by rw [if_neg c2])
  refine g_zret hX (pc := 18) hR (nz01 _) ?_ (Nat.le_of_ble_eq_true rfl) (Nat.le_of_ble_eq_true rfl) dX4_isMost_18
  refine ⟨?_, rfl⟩
  rw [vOK_bit h5 hv]
  by_cases h : nI sz < 2 * vtUp v sz
  · rw [if_neg (Int32.not_le.mpr h), if_pos h]
  · rw [if_pos (Int32.not_lt.mp h), if_neg h]

set_option maxHeartbeats 4000000 in
theorem mt_W_put (E : EE) (l : Launch) (wd : Nat) (sz : Nat) (ma : Nat) (lb : Nat) (nw : Int32) (r0 : Nat) (r1 : Nat) (r2 : Nat) (r3 : Nat) (mo : Nat) (B : PB) (wb : va_W) (fz : va_W) (a : Nat) (g : PMg) (hB : MBL E fz lb (Prod.fst B) wb) (hg : GMIn E fz a g) (hn : (List.length (Prod.fst B) ≤ 30)) : Mt E l yX4_put cX4_put 2 none 7 1 45 171 [.ref wd, .ref a] [[(wd, ob 3 [.int (nI sz), .ref ma, .ref lb, .int nw, .int (Prod.snd B), .ref r0, .ref r1, .ref r2, .ref r3, .ref mo])], wb, fz] (fun (v_ : Option Value) (cs_ : List va_W) => ∃ (w1 : va_W), MBL E fz lb (Prod.fst (bSend B g)) w1 ∧ v_ = none ∧ cs_ = [[(wd, ob 3 [.int (nI sz), .ref ma, .ref lb, .int nw, .int (Prod.snd (bSend B g)), .ref r0, .ref r1, .ref r2, .ref r3, .ref mo])], w1, fz]) := by
  refine Mt.of (by decide) (Nat.le_of_ble_eq_true rfl) (fun X hX hR hin => ?_)
  refine g_lv1 (lv1 := [(0, .ref wd), (1, .ref a)]) rfl ?_
  obtain ⟨gs, hgs, hA, hG⟩ := hB
  have hl : gs.length = (Prod.fst B).length := by rw [← hgs, List.length_map]
  have ho := gm_ok hG
  have ho1 := gm_ok1 hg
  have hla : (gs.map Prod.fst).length = gs.length := List.length_map ..
  have ho2 : okL E fz (gs.map Prod.fst ++ [a]) := by
    intro y hy
    rcases List.mem_append.mp hy with h | h
    · exact ho y h
    · rw [List.mem_singleton.mp h]; exact ho1
  have hl1 : (gs.map Prod.fst ++ [a]).length = (Prod.fst B).length + 1 := by rw [List.length_append, List.length_singleton, hla, hl]
  refine g_aload_n hX (pc := 0) dX4_put_0 0 rfl ?_
  refine g_get hX (pc := 1) fcX4 0 rfl 2 (by decide) q1743 rfl (v := .ref lb) rfl dX4_put_1 ?_
  refine g_aload_n hX (pc := 4) dX4_put_4 1 rfl ?_
  obtain ⟨fs1, hm2⟩ := AL.head hA
  refine g_callV hX (pc := 5) kJ2_add_2 (mt_AL_addT E l lb (List.map Prod.fst gs) wb a fz 30 hA (by omega) (by omega) (ho1) (ho)) q1938 fcJ2 (sp_in 1 rfl hm2) [1, 1] rfl rfl rfl (Nat.le_of_ble_eq_true rfl) (Nat.le_of_ble_eq_true rfl) (Nat.le_of_ble_eq_true rfl) (by omega) (by omega) dX4_put_5 (fun v w1 hp => ?_)
  obtain ⟨w13, h4, rfl, rfl⟩ := hp
  refine g_nrm (cs1 := [w13, fz, [(wd, ob 3 [.int (nI sz), .ref ma, .ref lb, .int nw, .int (Prod.snd B), .ref r0, .ref r1, .ref r2, .ref r3, .ref mo])]]) (st1 := [.int 1]) rfl rfl ?_
  refine g_pop hX (pc := 8) dX4_put_8 rfl ?_
  refine g_aload_n hX (pc := 9) dX4_put_9 0 rfl ?_
  refine g_get hX (pc := 10) fcX4 2 rfl 2 (by decide) q1743 rfl (v := .ref lb) rfl dX4_put_10 ?_
  obtain ⟨fs5, hm6⟩ := AL.head h4
  refine g_callV hX (pc := 13) kJ2_size (mt_AL_size E l lb ((List.map Prod.fst gs) ++ [a]) w13 h4) q1939 fcJ2 (sp_in 0 rfl hm6) [0] rfl rfl rfl (Nat.le_of_ble_eq_true rfl) (Nat.le_of_ble_eq_true rfl) (Nat.le_of_ble_eq_true rfl) (by omega) (by omega) dX4_put_13 (fun v w1 hp => ?_)
  obtain ⟨rfl, rfl⟩ := hp
  refine g_nrm (cs1 := [w13, fz, [(wd, ob 3 [.int (nI sz), .ref ma, .ref lb, .int nw, .int (Prod.snd B), .ref r0, .ref r1, .ref r2, .ref r3, .ref mo])]]) (st1 := [.int (nI (List.length ((List.map Prod.fst gs) ++ [a])))]) rfl rfl ?_
  refine g_bipush hX (pc := 16) (v := 30) dX4_put_16 (by decide) ?_
  refine g_icmp_gt hX (pc := 18) (tgt := 22) dX4_put_18 rfl (fun c7 => ?_) (fun c7 => ?_)
  · have d1 := c7
    rw [hl1, show (30 : Int32) = nI 30 from rfl, nI_ltI (by omega) (by omega)] at d1
    obtain ⟨y1, hy1⟩ := get_ex (l := gs.map Prod.fst ++ [a]) (i := 0) (by omega)
    refine g_aload_n hX (pc := 22) dX4_put_22 0 rfl ?_
    refine g_get hX (pc := 23) fcX4 2 rfl 2 (by decide) q1743 rfl (v := .ref lb) rfl dX4_put_23 ?_
    refine g_iconst hX (pc := 26) (v := 0) dX4_put_26 (by decide) ?_
    refine g_eqi (nI 0) (nI_0.symm) ?_
    refine g_callV hX (pc := 27) kJ2_remove (mt_AL_remove E l lb ((List.map Prod.fst gs) ++ [a]) w13 0 y1 fz h4 (hy1) (ho2)) q1940 fcJ2 (sp_in 0 rfl hm6) [0, 0] rfl rfl rfl (Nat.le_of_ble_eq_true rfl) (Nat.le_of_ble_eq_true rfl) (Nat.le_of_ble_eq_true rfl) (by omega) (by omega) dX4_put_27 (fun v w1 hp => ?_)
    obtain ⟨w18, h9, rfl, rfl⟩ := hp
    refine g_nrm (cs1 := [w18, fz, [(wd, ob 3 [.int (nI sz), .ref ma, .ref lb, .int nw, .int (Prod.snd B), .ref r0, .ref r1, .ref r2, .ref r3, .ref mo])]]) (st1 := [.ref y1]) rfl rfl ?_
    refine g_pop hX (pc := 30) dX4_put_30 rfl ?_
    refine g_aload_n hX (pc := 31) dX4_put_31 0 rfl ?_
    refine g_dup hX (pc := 32) dX4_put_32 rfl ?_
    refine g_get hX (pc := 33) fcX4 2 rfl 4 (by decide) q1747 rfl (v := .int (Prod.snd B)) rfl dX4_put_33 ?_
    refine g_iconst hX (pc := 36) (v := 1) dX4_put_36 (by decide) ?_
    refine g_iadd hX (pc := 37) dX4_put_37 ?_
    refine g_put hX (pc := 38) fcX4 2 (fs1 := [.int (nI sz), .ref ma, .ref lb, .int nw, .int ((Prod.snd B) + 1), .ref r0, .ref r1, .ref r2, .ref r3, .ref mo]) (cs1 := [w18, fz, [(wd, ob 3 [.int (nI sz), .ref ma, .ref lb, .int nw, .int ((Prod.snd B) + 1), .ref r0, .ref r1, .ref r2, .ref r3, .ref mo])]]) rfl 4 (by decide) q1747 rfl rfl rfl rfl (Nat.le_of_ble_eq_true rfl) rfl rfl dX4_put_38 ?_
    refine g_pk [2, 0, 0] rfl ?_
    refine g_cs (cs1 := [[(wd, ob 3 [.int (nI sz), .ref ma, .ref lb, .int nw, .int ((Prod.snd B) + 1), .ref r0, .ref r1, .ref r2, .ref r3, .ref mo])], w18, fz]) rfl ?_
    refine g_vret hX (pc := 41) hR ?_ (by omega) (by omega) dX4_put_41
    rw [show bSend B g = ((Prod.fst B).drop 1 ++ [g], Prod.snd B + 1) from if_pos (by omega)]
    refine ⟨_, ⟨gs.drop 1 ++ [(a, g)], ?_, ?_, ?_⟩, rfl, rfl⟩
    · rw [List.map_append, List.map_drop, hgs]; rfl
    · have hx := h9
      rw [List.eraseIdx_zero, ← List.drop_one, List.drop_append_of_le_length (by rw [hla]; omega)] at hx
      rw [List.map_append, List.map_drop]
      exact hx
    · intro q hq
      rcases List.mem_append.mp hq with h | h
      · exact hG q (List.mem_of_mem_drop h)
      · rw [List.mem_singleton.mp h]; exact hg
  · have d1 := c7
    rw [hl1, show (30 : Int32) = nI 30 from rfl, nI_ltI (by omega) (by omega)] at d1
    refine g_pk [2, 0, 0] rfl ?_
    refine g_cs (cs1 := [[(wd, ob 3 [.int (nI sz), .ref ma, .ref lb, .int nw, .int (Prod.snd B), .ref r0, .ref r1, .ref r2, .ref r3, .ref mo])], w13, fz]) rfl ?_
    refine g_vret hX (pc := 21) hR ?_ (by omega) (by omega) dX4_put_21
    rw [show bSend B g = ((Prod.fst B) ++ [g], Prod.snd B) from if_neg (by omega)]
    refine ⟨_, ⟨gs ++ [(a, g)], ?_, ?_, ?_⟩, rfl, rfl⟩
    · rw [List.map_append, hgs]; rfl
    · rw [List.map_append]
      exact h4
    · intro q hq
      rcases List.mem_append.mp hq with h | h
      · exact hG q h
      · rw [List.mem_singleton.mp h]; exact hg

set_option maxHeartbeats 4000000 in
theorem mt_W_follow (E : EE) (l : Launch) (wd : Nat) (m : Nat) (role : Int32) (rk : Nat) (rv : Nat) (rs : Nat) (dn : Int32) (su : Int32) (vt : Int32) (rn : Nat) (rp : Nat) (lz : Int32) : Mt E l yX4_follow cX4_follow 2 none 1 0 0 1 [.ref wd, .ref m] [[(m, ob 4 [.int role, .ref rk, .ref rv, .ref rs, .int dn, .int su, .int vt, .ref rn, .ref rp, .int lz])]] (fun (v_ : Option Value) (cs_ : List va_W) => v_ = none ∧ cs_ = [[(m, ob 4 [.int 1, .ref rk, .ref rv, .ref rs, .int dn, .int su, .int 0, .ref rn, .ref rp, .int lz])]]) := by
  refine Mt.of (by decide) (Nat.le_of_ble_eq_true rfl) (fun X hX hR hin => ?_)
  refine g_lv1 (lv1 := [(0, .ref wd), (1, .ref m)]) rfl ?_
  refine g_aload_n hX (pc := 0) dX4_follow_0 1 rfl ?_
  refine g_iconst hX (pc := 1) (v := 1) dX4_follow_1 (by decide) ?_
  refine g_putN hX (pc := 2) fcX5 0 (fs1 := [.int 1, .ref rk, .ref rv, .ref rs, .int dn, .int su, .int vt, .ref rn, .ref rp, .int lz]) (cs1 := [[(m, ob 4 [.int 1, .ref rk, .ref rv, .ref rs, .int dn, .int su, .int vt, .ref rn, .ref rp, .int lz])]]) rfl 0 (by decide) q1689 rfl rfl rfl rfl (Nat.le_of_ble_eq_true rfl) rfl rfl dX4_follow_2 ?_
  refine g_aload_n hX (pc := 5) dX4_follow_5 1 rfl ?_
  refine g_iconst hX (pc := 6) (v := 0) dX4_follow_6 (by decide) ?_
  refine g_putN hX (pc := 7) fcX5 0 (fs1 := [.int 1, .ref rk, .ref rv, .ref rs, .int dn, .int su, .int 0, .ref rn, .ref rp, .int lz]) (cs1 := [[(m, ob 4 [.int 1, .ref rk, .ref rv, .ref rs, .int dn, .int su, .int 0, .ref rn, .ref rp, .int lz])]]) rfl 6 (by decide) q1707 rfl rfl rfl rfl (Nat.le_of_ble_eq_true rfl) rfl rfl dX4_follow_7 ?_
  refine g_vret hX (pc := 10) hR ?_ (Nat.le_of_ble_eq_true rfl) (Nat.le_of_ble_eq_true rfl) dX4_follow_10
  exact ⟨rfl, rfl⟩

set_option maxHeartbeats 4000000 in
theorem mt_W_add (E : EE) (l : Launch) (wd : Nat) (m : Nat) (role : Int32) (rk : Nat) (rv : Nat) (rs : Nat) (dn : Int32) (su : Int32) (vt : Int32) (rn : Nat) (rp : Nat) (lz : Int32) (t : Int32) (v : Int32) (b : Nat) (bt : Int32) (sp : Nat) (la : Nat) (fz : va_W) (ges : List (Nat × PEn)) (wl : va_W) (r : Int32) (N : Nat) (hE : MEL E fz la ges wl) (hN : (List.length ges ≤ N)) (hN2 : (N ≤ 60000)) : Mt E l yX4_add cX4_add 4 none 7 2 (2 + max 10 (N + N / 2)) 171 [.ref wd, .ref m, .int r] [[(m, ob 4 [.int role, .ref rk, .ref rv, .ref rs, .int dn, .int su, .int vt, .ref rn, .ref rp, .int lz])], [(rk, ob 5 [.int t, .int v, .int (nI b), .int bt, .ref sp, .ref la])], wl, fz] (fun (v_ : Option Value) (cs_ : List va_W) => ∃ (q : Nat) (fz1 : va_W) (w1 : va_W), Ext E fz fz1 ∧ MEL E fz1 la (ges ++ [en2 q t r]) w1 ∧ v_ = none ∧ cs_ = [[(m, ob 4 [.int role, .ref rk, .ref rv, .ref rs, .int dn, .int su, .int vt, .ref rn, .ref rp, .int lz])], [(rk, ob 5 [.int t, .int v, .int (nI b), .int bt, .ref sp, .ref la])], w1, fz1]) := by
  refine Mt.of (by decide) (Nat.le_of_ble_eq_true rfl) (fun X hX hR hin => ?_)
  refine g_lv1 (lv1 := [(0, .ref wd), (1, .ref m), (2, .int r)]) rfl ?_
  refine g_iconst hX (pc := 0) (v := 2) dX4_add_0 (by decide) ?_
  refine g_newi hX (pc := 1) q918 2 (by decide) (by decide) (Nat.le_of_ble_eq_true rfl) (by omega) (by omega) dX4_add_1 (fun q1 => ?_)
  refine g_dup hX (pc := 3) dX4_add_3 rfl ?_
  refine g_iconst hX (pc := 4) (v := 0) dX4_add_4 (by decide) ?_
  refine g_aload_n hX (pc := 5) dX4_add_5 1 rfl ?_
  refine g_getN hX (pc := 6) fcX5 1 rfl 1 (by decide) q1692 rfl (v := .ref rk) rfl dX4_add_6 ?_
  refine g_getN hX (pc := 9) fcX6 2 rfl 0 (by decide) q1656 rfl (v := .int t) rfl dX4_add_9 ?_
  refine g_iast hX (pc := 12) (f1 := (upd (fun _ => 0) 0 t)) (cs1 := [[(q1, iA (aC E 0) 2 (upd (fun _ => 0) 0 t))], [(m, ob 4 [.int role, .ref rk, .ref rv, .ref rs, .int dn, .int su, .int vt, .ref rn, .ref rp, .int lz])], [(rk, ob 5 [.int t, .int v, .int (nI b), .int bt, .ref sp, .ref la])], wl, fz]) 0 rfl (by unfold vp_in; decide) rfl rfl dX4_add_12 ?_
  refine g_dup hX (pc := 13) dX4_add_13 rfl ?_
  refine g_iconst hX (pc := 14) (v := 1) dX4_add_14 (by decide) ?_
  refine g_iload_n hX (pc := 15) dX4_add_15 2 rfl ?_
  refine g_iast hX (pc := 16) (f1 := (upd (upd (fun _ => 0) 0 t) 1 r)) (cs1 := [[(q1, iA (aC E 0) 2 (upd (upd (fun _ => 0) 0 t) 1 r))], [(m, ob 4 [.int role, .ref rk, .ref rv, .ref rs, .int dn, .int su, .int vt, .ref rn, .ref rp, .int lz])], [(rk, ob 5 [.int t, .int v, .int (nI b), .int bt, .ref sp, .ref la])], wl, fz]) 0 rfl (by unfold vp_in; decide) rfl rfl dX4_add_16 ?_
  refine g_astore_n hX (pc := 17) (lv1 := [(3, .ref q1), (0, .ref wd), (1, .ref m), (2, .int r)]) dX4_add_17 (by decide) rfl ?_
  refine g_aload_n hX (pc := 18) dX4_add_18 2 rfl ?_
  refine g_getN hX (pc := 19) fcX5 1 rfl 1 (by decide) q1692 rfl (v := .ref rk) rfl dX4_add_19 ?_
  refine g_getN hX (pc := 22) fcX6 2 rfl 5 (by decide) q1671 rfl (v := .ref la) rfl dX4_add_22 ?_
  refine g_aload_n hX (pc := 25) dX4_add_25 0 rfl ?_
  refine g_pk [0, 3] rfl ?_
  refine g_cs (cs1 := [[(q1, iA (aC E 0) 2 (upd (upd (fun _ => 0) 0 t) 1 r))], fz, [(m, ob 4 [.int role, .ref rk, .ref rv, .ref rs, .int dn, .int su, .int vt, .ref rn, .ref rp, .int lz])], [(rk, ob 5 [.int t, .int v, .int (nI b), .int bt, .ref sp, .ref la])], wl]) rfl ?_
  refine g_fl (cs1 := [((q1, iA (aC E 0) 2 (upd (upd (fun _ => 0) 0 t) 1 r)) :: (fz)), [(m, ob 4 [.int role, .ref rk, .ref rv, .ref rs, .int dn, .int su, .int vt, .ref rn, .ref rp, .int lz])], [(rk, ob 5 [.int t, .int v, .int (nI b), .int bt, .ref sp, .ref la])], wl]) (by simp only [List.flatten_cons, List.flatten_nil, List.cons_append, List.append_assoc, List.nil_append, List.append_nil]) ?_
  have hx3 : Ext E fz ((q1, iA (aC E 0) 2 (upd (upd (fun _ => 0) 0 t) 1 r)) :: (fz)) := fun q hq => (List.mem_cons_of_mem _ hq)
  have hm4 : (q1, iA (aC E 0) 2 (upd (upd (fun _ => 0) 0 t) 1 r)) ∈ ((q1, iA (aC E 0) 2 (upd (upd (fun _ => 0) 0 t) 1 r)) :: (fz)) := (List.mem_cons_self)
  generalize ((q1, iA (aC E 0) 2 (upd (upd (fun _ => 0) 0 t) 1 r)) :: (fz)) = fz2 at hx3 hm4 ⊢
  have h5 := MEL.mono hx3 hE
  have hxq : (q1, enM E (t, r)) ∈ fz2 := hm4
  have hxe : okE E fz2 q1 := Or.inr (Or.inl ⟨2, _, hxq⟩)
  have hxl : (List.map Prod.fst ges).length ≤ N := by rw [List.length_map]; exact hN
  obtain ⟨fs6, hm7⟩ := AL.head hE.1
  refine g_callV hX (pc := 26) kJ2_add_2 (mt_AL_addT E l la (List.map Prod.fst ges) wl q1 fz2 N hE.1 (hxl) (hN2) (hxe) (men_ok h5.2)) q1938 fcJ2 (sp_in 3 rfl hm7) [3, 0] rfl rfl rfl (Nat.le_of_ble_eq_true rfl) (Nat.le_of_ble_eq_true rfl) (Nat.le_of_ble_eq_true rfl) (by omega) (by omega) dX4_add_26 (fun v w1 hp => ?_)
  obtain ⟨w18, h9, rfl, rfl⟩ := hp
  refine g_nrm (cs1 := [w18, fz2, [(m, ob 4 [.int role, .ref rk, .ref rv, .ref rs, .int dn, .int su, .int vt, .ref rn, .ref rp, .int lz])], [(rk, ob 5 [.int t, .int v, .int (nI b), .int bt, .ref sp, .ref la])]]) (st1 := [.int 1]) rfl rfl ?_
  refine g_pop hX (pc := 29) dX4_add_29 rfl ?_
  refine g_pk [2, 2, 0, 0] rfl ?_
  refine g_cs (cs1 := [[(m, ob 4 [.int role, .ref rk, .ref rv, .ref rs, .int dn, .int su, .int vt, .ref rn, .ref rp, .int lz])], [(rk, ob 5 [.int t, .int v, .int (nI b), .int bt, .ref sp, .ref la])], w18, fz2]) rfl ?_
  refine g_vret hX (pc := 30) hR ?_ (by omega) (by omega) dX4_add_30
  exact ⟨_, _, _, hx3, mel_add h5 hxq h9, rfl, rfl⟩

/-- a request that is answered -/
def rAns1 (r : PR) (x now : Int32) : PR := (r.1, r.2.1, x, rSent r, now, rTimes r)
theorem ra4_ans {E : EE} {r0 r1 r2 r3 j : Nat} {R : List PR} {r : PR} {x now : Int32} (h : R[j]? = some r) : RA4 E r0 r1 r2 r3 (R.set j (rAns1 r x now)) = [(r0, iA (aC E 0) 40 (upd (fRes R) j x)), (r1, iA (aC E 0) 40 (fSen R)), (r2, iA (aC E 0) 40 (upd (fAns R) j now)), (r3, iA (aC E 0) 40 (fTim R))] := by
  have hj := (List.getElem?_eq_some_iff.mp h).1
  unfold RA4
  rw [show fRes (R.set j (rAns1 r x now)) = upd (fRes R) j x from fX_set (h := fun r => rRes r) hj, show fSen (R.set j (rAns1 r x now)) = fSen R from fX_same (h := fun r => rSent r) h rfl,
    show fAns (R.set j (rAns1 r x now)) = upd (fAns R) j now from fX_set (h := fun r => rAns r) hj, show fTim (R.set j (rAns1 r x now)) = fTim R from fX_same (h := fun r => rTimes r) h rfl]

set_option maxHeartbeats 4000000 in
theorem mt_W_answer (E : EE) (l : Launch) (wd : Nat) (sz : Nat) (ma : Nat) (lb : Nat) (nw : Int32) (lo : Int32) (r0 : Nat) (r1 : Nat) (r2 : Nat) (r3 : Nat) (mo : Nat) (j : Nat) (x : Int32) (R : List PR) (r : PR) (hj : (R[j]? = some r)) (hj40 : (j < 40)) : Mt E l yX4_answer cX4_answer 3 none 1 0 0 1 [.ref wd, .int (nI j), .int x] [[(wd, ob 3 [.int (nI sz), .ref ma, .ref lb, .int nw, .int lo, .ref r0, .ref r1, .ref r2, .ref r3, .ref mo])], (RA4 E r0 r1 r2 r3 R)] (fun (v_ : Option Value) (cs_ : List va_W) => v_ = none ∧ cs_ = [[(wd, ob 3 [.int (nI sz), .ref ma, .ref lb, .int nw, .int lo, .ref r0, .ref r1, .ref r2, .ref r3, .ref mo])], (RA4 E r0 r1 r2 r3 (List.set R j (rAns1 r x nw)))]) := by
  refine Mt.of (by decide) (Nat.le_of_ble_eq_true rfl) (fun X hX hR hin => ?_)
  refine g_lv1 (lv1 := [(0, .ref wd), (1, .int (nI j)), (2, .int x)]) rfl ?_
  refine g_fl (cs1 := [[(wd, ob 3 [.int (nI sz), .ref ma, .ref lb, .int nw, .int lo, .ref r0, .ref r1, .ref r2, .ref r3, .ref mo])], [(r0, iA (aC E 0) 40 (fRes R))], [(r1, iA (aC E 0) 40 (fSen R))], [(r2, iA (aC E 0) 40 (fAns R))], [(r3, iA (aC E 0) 40 (fTim R))]]) rfl ?_
  refine g_aload_n hX (pc := 0) dX4_answer_0 0 rfl ?_
  refine g_get hX (pc := 1) fcX4 0 rfl 5 (by decide) q1749 rfl (v := .ref r0) rfl dX4_answer_1 ?_
  refine g_iload_n hX (pc := 4) dX4_answer_4 1 rfl ?_
  refine g_iload_n hX (pc := 5) dX4_answer_5 2 rfl ?_
  refine g_iast hX (pc := 6) (f1 := (upd (fRes R) j x)) (cs1 := [[(wd, ob 3 [.int (nI sz), .ref ma, .ref lb, .int nw, .int lo, .ref r0, .ref r1, .ref r2, .ref r3, .ref mo])], [(r0, iA (aC E 0) 40 (upd (fRes R) j x))], [(r1, iA (aC E 0) 40 (fSen R))], [(r2, iA (aC E 0) 40 (fAns R))], [(r3, iA (aC E 0) 40 (fTim R))]]) 1 rfl (vp_in_nI (by omega) (by omega)) (by rw [nI_clamp (by omega)]) rfl dX4_answer_6 ?_
  refine g_aload_n hX (pc := 7) dX4_answer_7 0 rfl ?_
  refine g_get hX (pc := 8) fcX4 0 rfl 7 (by decide) q1753 rfl (v := .ref r2) rfl dX4_answer_8 ?_
  refine g_iload_n hX (pc := 11) dX4_answer_11 1 rfl ?_
  refine g_aload_n hX (pc := 12) dX4_answer_12 0 rfl ?_
  refine g_get hX (pc := 13) fcX4 0 rfl 3 (by decide) q1745 rfl (v := .int nw) rfl dX4_answer_13 ?_
  refine g_iast hX (pc := 16) (f1 := (upd (fAns R) j nw)) (cs1 := [[(wd, ob 3 [.int (nI sz), .ref ma, .ref lb, .int nw, .int lo, .ref r0, .ref r1, .ref r2, .ref r3, .ref mo])], [(r0, iA (aC E 0) 40 (upd (fRes R) j x))], [(r1, iA (aC E 0) 40 (fSen R))], [(r2, iA (aC E 0) 40 (upd (fAns R) j nw))], [(r3, iA (aC E 0) 40 (fTim R))]]) 3 rfl (vp_in_nI (by omega) (by omega)) (by rw [nI_clamp (by omega)]) rfl dX4_answer_16 ?_
  refine g_pk [1, 1, 1, 1] rfl ?_
  refine g_fl (cs1 := [[(r0, iA (aC E 0) 40 (upd (fRes R) j x)), (r1, iA (aC E 0) 40 (fSen R)), (r2, iA (aC E 0) 40 (upd (fAns R) j nw)), (r3, iA (aC E 0) 40 (fTim R))], [(wd, ob 3 [.int (nI sz), .ref ma, .ref lb, .int nw, .int lo, .ref r0, .ref r1, .ref r2, .ref r3, .ref mo])]]) rfl ?_
  refine g_cs (cs1 := [(RA4 E r0 r1 r2 r3 (List.set R j (rAns1 r x nw))), [(wd, ob 3 [.int (nI sz), .ref ma, .ref lb, .int nw, .int lo, .ref r0, .ref r1, .ref r2, .ref r3, .ref mo])]]) (by rw [ra4_ans hj]) ?_
  refine g_pk [1, 0] rfl ?_
  refine g_cs (cs1 := [[(wd, ob 3 [.int (nI sz), .ref ma, .ref lb, .int nw, .int lo, .ref r0, .ref r1, .ref r2, .ref r3, .ref mo])], (RA4 E r0 r1 r2 r3 (List.set R j (rAns1 r x nw)))]) rfl ?_
  refine g_vret hX (pc := 17) hR ?_ (Nat.le_of_ble_eq_true rfl) (Nat.le_of_ble_eq_true rfl) dX4_answer_17
  exact ⟨rfl, rfl⟩

set_option maxHeartbeats 4000000 in
theorem mt_W_back (E : EE) (l : Launch) (wd : Nat) (sz : Nat) (ma : Nat) (lb : Nat) (nw : Int32) (r0 : Nat) (r1 : Nat) (r2 : Nat) (r3 : Nat) (mo : Nat) (as : List Nat) (m : Nat) (M : PM) (wk : va_W) (fz : va_W) (B : PB) (wb : va_W) (ga : Nat) (g : PMg) (kd : Nat) (y : Bool) (n : Nat) (hM : IsMM E fz sz m M wk) (hB : MBL E fz lb (Prod.fst B) wb) (hg : (GMIn E fz ga g)) (hm : (as[gT g]? = some m)) (hk : (gT g < sz)) (hgt : (gT g = mN M)) (h5 : (sz ≤ 5)) (hkd : (¬ kd = 4)) (hn : (List.length (Prod.fst B) ≤ 30)) : Mt E l yX4_back cX4_back 6 none 8 3 58 192 [.ref wd, .int (nI kd), .ref ga, .int (bI y), .int (nI n)] [[(wd, ob 3 [.int (nI sz), .ref ma, .ref lb, .int nw, .int (Prod.snd B), .ref r0, .ref r1, .ref r2, .ref r3, .ref mo])], [(ma, qA (aC E 4) sz (idA as))], wk, wb, fz] (fun (v_ : Option Value) (cs_ : List va_W) => ∃ (fz1 : va_W) (w1 : va_W) (w2 : va_W), Ext E fz fz1 ∧ IsMM E fz1 sz m M w1 ∧ MBL E fz1 lb (Prod.fst (bSend B (mkA kd M (gF g) y n))) w2 ∧ v_ = none ∧ cs_ = [[(wd, ob 3 [.int (nI sz), .ref ma, .ref lb, .int nw, .int (Prod.snd (bSend B (mkA kd M (gF g) y n))), .ref r0, .ref r1, .ref r2, .ref r3, .ref mo])], [(ma, qA (aC E 4) sz (idA as))], w1, w2, fz1]) := by
  refine Mt.of (by decide) (Nat.le_of_ble_eq_true rfl) (fun X hX hR hin => ?_)
  refine g_lv1 (lv1 := [(0, .ref wd), (1, .int (nI kd)), (2, .ref ga), (3, .int (bI y)), (4, .int (nI n))]) rfl ?_
  obtain ⟨gla, gsv, gges, gwl, hg1, hg2, hg3, hg4, hg5⟩ := hg
  obtain ⟨rk1, rv2, rs3, rn4, rp5, fn6, fk7, wl8, ws9, hn10, hK11, hV12, hS13, rfl⟩ := hM
  obtain ⟨la14, sp15, ges16, wl8, hE17, hges18, hsp19, rfl⟩ := hK11
  refine g_fl (cs1 := [[(wd, ob 3 [.int (nI sz), .ref ma, .ref lb, .int nw, .int (Prod.snd B), .ref r0, .ref r1, .ref r2, .ref r3, .ref mo])], [(ma, qA (aC E 4) sz (idA as))], [(m, ob 4 [.int (mR M), .ref rk1, .ref rv2, .ref rs3, .int (nI (mDn M)), .int (nI (mSu M)), .int (mVt M), .ref rn4, .ref rp5, .int (bI (mLz M))])], [(rn4, iA (aC E 0) 5 fn6)], [(rp5, iA (aC E 0) 5 fk7)], [(rk1, ob 5 [.int (lT (mL M)), .int (lV (mL M)), .int (nI (lB (mL M))), .int (lBT (mL M)), .ref sp15, .ref la14])], wl8, ws9, wb, fz]) (by simp only [List.flatten_cons, List.flatten_nil, List.cons_append, List.append_assoc, List.nil_append, List.append_nil]) ?_
  have hl_ges16 : List.length ges16 = List.length (lE (mL M)) := by rw [← hges18, List.length_map]
  refine g_new hX (pc := 0) fcX15 q1868 q1869 q102 (fs := [.int 0, .int 0, .int 0, .int 0, .int 0, .int 0, .int 0, .int 0, .null, .null]) (fun j hj => by match j, hj with | 0, _ => rfl | 1, _ => rfl | 2, _ => rfl | 3, _ => rfl | 4, _ => rfl | 5, _ => rfl | 6, _ => rfl | 7, _ => rfl | 8, _ => rfl | 9, _ => rfl | j + 10, h => exact absurd h (by omega)) (by omega) (by omega) dX4_back_0 (fun q20 => ?_)
  refine g_dup hX (pc := 3) dX4_back_3 rfl ?_
  refine g_iload_n hX (pc := 4) dX4_back_4 1 rfl ?_
  refine g_aload_n hX (pc := 5) dX4_back_5 2 rfl ?_
  refine g_getNm hX (pc := 6) fcX15 (sp_in 10 rfl hg1) 2 (by decide) q1883 rfl (v := .int (nI (gT g))) rfl dX4_back_6 ?_
  refine g_eqi (nI (mN M)) (by rw [hgt]) ?_
  refine g_aload_n hX (pc := 9) dX4_back_9 2 rfl ?_
  refine g_getNm hX (pc := 10) fcX15 (sp_in 10 rfl hg1) 1 (by decide) q1880 rfl (v := .int (nI (gF g))) rfl dX4_back_10 ?_
  refine g_aload_n hX (pc := 13) dX4_back_13 0 rfl ?_
  refine g_get hX (pc := 14) fcX4 1 rfl 1 (by decide) q1741 rfl (v := .ref ma) rfl dX4_back_14 ?_
  refine g_aload_n hX (pc := 17) dX4_back_17 2 rfl ?_
  refine g_getNm hX (pc := 18) fcX15 (sp_in 10 rfl hg1) 2 (by decide) q1883 rfl (v := .int (nI (gT g))) rfl dX4_back_18 ?_
  refine g_aald hX (pc := 21) (t0 := 4) rfl (sp_mem (i := 2) rfl) (y := m) (vp_in_nI (by omega) (by omega)) (by rw [nI_clamp (by omega)]; exact hm) dX4_back_21 ?_
  refine g_getN hX (pc := 22) fcX5 3 rfl 1 (by decide) q1692 rfl (v := .ref rk1) rfl dX4_back_22 ?_
  refine g_getN hX (pc := 25) fcX6 6 rfl 0 (by decide) q1656 rfl (v := .int (lT (mL M))) rfl dX4_back_25 ?_
  refine g_callI hX (pc := 28) kX15_init (mt_GM_init E l q20 (nI kd) (nI (mN M)) (nI (gF g)) (lT (mL M))) q1870 [0] rfl rfl rfl (Nat.le_of_ble_eq_true rfl) (Nat.le_of_ble_eq_true rfl) (Nat.le_of_ble_eq_true rfl) (by omega) (by omega) dX4_back_28 (fun v w1 hp => ?_)
  obtain ⟨la21, w22, h23, rfl, rfl⟩ := hp
  refine g_nrm (cs1 := [[(q20, ob 13 [.int (nI kd), .int (nI (mN M)), .int (nI (gF g)), .int (lT (mL M)), .int 0, .int 0, .int 0, .int 0, .ref la21, .null])], w22, [(wd, ob 3 [.int (nI sz), .ref ma, .ref lb, .int nw, .int (Prod.snd B), .ref r0, .ref r1, .ref r2, .ref r3, .ref mo])], [(ma, qA (aC E 4) sz (idA as))], [(m, ob 4 [.int (mR M), .ref rk1, .ref rv2, .ref rs3, .int (nI (mDn M)), .int (nI (mSu M)), .int (mVt M), .ref rn4, .ref rp5, .int (bI (mLz M))])], [(rn4, iA (aC E 0) 5 fn6)], [(rp5, iA (aC E 0) 5 fk7)], [(rk1, ob 5 [.int (lT (mL M)), .int (lV (mL M)), .int (nI (lB (mL M))), .int (lBT (mL M)), .ref sp15, .ref la14])], wl8, ws9, wb, fz]) (st1 := [.ref q20]) rfl rfl ?_
  refine g_astore hX (pc := 31) (lv1 := [(5, .ref q20), (0, .ref wd), (1, .int (nI kd)), (2, .ref ga), (3, .int (bI y)), (4, .int (nI n))]) dX4_back_31 (by decide) rfl ?_
  refine g_aload hX (pc := 33) dX4_back_33 0 rfl ?_
  refine g_iload_n hX (pc := 35) dX4_back_35 4 rfl ?_
  refine g_putN hX (pc := 36) fcX15 0 (fs1 := [.int (nI kd), .int (nI (mN M)), .int (nI (gF g)), .int (lT (mL M)), .int 0, .int 0, .int (bI y), .int 0, .ref la21, .null]) (cs1 := [[(q20, ob 13 [.int (nI kd), .int (nI (mN M)), .int (nI (gF g)), .int (lT (mL M)), .int 0, .int 0, .int (bI y), .int 0, .ref la21, .null])], w22, [(wd, ob 3 [.int (nI sz), .ref ma, .ref lb, .int nw, .int (Prod.snd B), .ref r0, .ref r1, .ref r2, .ref r3, .ref mo])], [(ma, qA (aC E 4) sz (idA as))], [(m, ob 4 [.int (mR M), .ref rk1, .ref rv2, .ref rs3, .int (nI (mDn M)), .int (nI (mSu M)), .int (mVt M), .ref rn4, .ref rp5, .int (bI (mLz M))])], [(rn4, iA (aC E 0) 5 fn6)], [(rp5, iA (aC E 0) 5 fk7)], [(rk1, ob 5 [.int (lT (mL M)), .int (lV (mL M)), .int (nI (lB (mL M))), .int (lBT (mL M)), .ref sp15, .ref la14])], wl8, ws9, wb, fz]) rfl 6 (by decide) q1891 rfl rfl (bI_n _) (bI_f _) (Nat.le_of_ble_eq_true rfl) rfl rfl dX4_back_36 ?_
  refine g_aload hX (pc := 39) dX4_back_39 0 rfl ?_
  refine g_iload hX (pc := 41) dX4_back_41 5 rfl ?_
  refine g_putN hX (pc := 43) fcX15 0 (fs1 := [.int (nI kd), .int (nI (mN M)), .int (nI (gF g)), .int (lT (mL M)), .int (nI n), .int 0, .int (bI y), .int 0, .ref la21, .null]) (cs1 := [[(q20, ob 13 [.int (nI kd), .int (nI (mN M)), .int (nI (gF g)), .int (lT (mL M)), .int (nI n), .int 0, .int (bI y), .int 0, .ref la21, .null])], w22, [(wd, ob 3 [.int (nI sz), .ref ma, .ref lb, .int nw, .int (Prod.snd B), .ref r0, .ref r1, .ref r2, .ref r3, .ref mo])], [(ma, qA (aC E 4) sz (idA as))], [(m, ob 4 [.int (mR M), .ref rk1, .ref rv2, .ref rs3, .int (nI (mDn M)), .int (nI (mSu M)), .int (mVt M), .ref rn4, .ref rp5, .int (bI (mLz M))])], [(rn4, iA (aC E 0) 5 fn6)], [(rp5, iA (aC E 0) 5 fk7)], [(rk1, ob 5 [.int (lT (mL M)), .int (lV (mL M)), .int (nI (lB (mL M))), .int (lBT (mL M)), .ref sp15, .ref la14])], wl8, ws9, wb, fz]) rfl 4 (by decide) q1888 rfl rfl rfl rfl (Nat.le_of_ble_eq_true rfl) rfl rfl dX4_back_43 ?_
  refine g_aload_n hX (pc := 46) dX4_back_46 1 rfl ?_
  refine g_aload hX (pc := 47) dX4_back_47 0 rfl ?_
  refine g_pk [4, 4, 4, 4, 4, 4] rfl ?_
  refine g_cs (cs1 := [[(m, ob 4 [.int (mR M), .ref rk1, .ref rv2, .ref rs3, .int (nI (mDn M)), .int (nI (mSu M)), .int (mVt M), .ref rn4, .ref rp5, .int (bI (mLz M))])], [(rn4, iA (aC E 0) 5 fn6)], [(rp5, iA (aC E 0) 5 fk7)], [(rk1, ob 5 [.int (lT (mL M)), .int (lV (mL M)), .int (nI (lB (mL M))), .int (lBT (mL M)), .ref sp15, .ref la14])], wl8, ws9, [(q20, ob 13 [.int (nI kd), .int (nI (mN M)), .int (nI (gF g)), .int (lT (mL M)), .int (nI n), .int 0, .int (bI y), .int 0, .ref la21, .null])], w22, [(wd, ob 3 [.int (nI sz), .ref ma, .ref lb, .int nw, .int (Prod.snd B), .ref r0, .ref r1, .ref r2, .ref r3, .ref mo])], [(ma, qA (aC E 4) sz (idA as))], wb, fz]) rfl ?_
  refine g_fl (cs1 := [((m, ob 4 [.int (mR M), .ref rk1, .ref rv2, .ref rs3, .int (nI (mDn M)), .int (nI (mSu M)), .int (mVt M), .ref rn4, .ref rp5, .int (bI (mLz M))]) :: (rn4, iA (aC E 0) 5 fn6) :: (rp5, iA (aC E 0) 5 fk7) :: (((rk1, ob 5 [.int (lT (mL M)), .int (lV (mL M)), .int (nI (lB (mL M))), .int (lBT (mL M)), .ref sp15, .ref la14]) :: wl8) ++ ws9)), [(q20, ob 13 [.int (nI kd), .int (nI (mN M)), .int (nI (gF g)), .int (lT (mL M)), .int (nI n), .int 0, .int (bI y), .int 0, .ref la21, .null])], w22, [(wd, ob 3 [.int (nI sz), .ref ma, .ref lb, .int nw, .int (Prod.snd B), .ref r0, .ref r1, .ref r2, .ref r3, .ref mo])], [(ma, qA (aC E 4) sz (idA as))], wb, fz]) (by simp only [List.flatten_cons, List.flatten_nil, List.cons_append, List.append_assoc, List.nil_append, List.append_nil]) ?_
  have hM24 : IsMM E fz sz m M ((m, ob 4 [.int (mR M), .ref rk1, .ref rv2, .ref rs3, .int (nI (mDn M)), .int (nI (mSu M)), .int (mVt M), .ref rn4, .ref rp5, .int (bI (mLz M))]) :: (rn4, iA (aC E 0) 5 fn6) :: (rp5, iA (aC E 0) 5 fk7) :: (((rk1, ob 5 [.int (lT (mL M)), .int (lV (mL M)), .int (nI (lB (mL M))), .int (lBT (mL M)), .ref sp15, .ref la14]) :: wl8) ++ ws9)) := ⟨_, _, _, _, _, _, _, _, _, hn10, ⟨_, _, _, _, hE17, hges18, hsp19, rfl⟩, hV12, hS13, rfl⟩
  generalize ((m, ob 4 [.int (mR M), .ref rk1, .ref rv2, .ref rs3, .int (nI (mDn M)), .int (nI (mSu M)), .int (mVt M), .ref rn4, .ref rp5, .int (bI (mLz M))]) :: (rn4, iA (aC E 0) 5 fn6) :: (rp5, iA (aC E 0) 5 fk7) :: (((rk1, ob 5 [.int (lT (mL M)), .int (lV (mL M)), .int (nI (lB (mL M))), .int (lBT (mL M)), .ref sp15, .ref la14]) :: wl8) ++ ws9)) = wk25 at hM24 ⊢
  refine g_pk [1, 1, 4] rfl ?_
  refine g_cs (cs1 := [[(q20, ob 13 [.int (nI kd), .int (nI (mN M)), .int (nI (gF g)), .int (lT (mL M)), .int (nI n), .int 0, .int (bI y), .int 0, .ref la21, .null])], w22, fz, wk25, [(wd, ob 3 [.int (nI sz), .ref ma, .ref lb, .int nw, .int (Prod.snd B), .ref r0, .ref r1, .ref r2, .ref r3, .ref mo])], [(ma, qA (aC E 4) sz (idA as))], wb]) rfl ?_
  refine g_fl (cs1 := [((q20, ob 13 [.int (nI kd), .int (nI (mN M)), .int (nI (gF g)), .int (lT (mL M)), .int (nI n), .int 0, .int (bI y), .int 0, .ref la21, .null]) :: (w22 ++ (fz))), wk25, [(wd, ob 3 [.int (nI sz), .ref ma, .ref lb, .int nw, .int (Prod.snd B), .ref r0, .ref r1, .ref r2, .ref r3, .ref mo])], [(ma, qA (aC E 4) sz (idA as))], wb]) (by simp only [List.flatten_cons, List.flatten_nil, List.cons_append, List.append_assoc, List.nil_append, List.append_nil]) ?_
  have hx27 : Ext E fz ((q20, ob 13 [.int (nI kd), .int (nI (mN M)), .int (nI (gF g)), .int (lT (mL M)), .int (nI n), .int 0, .int (bI y), .int 0, .ref la21, .null]) :: (w22 ++ (fz))) := fun q hq => (List.mem_cons_of_mem _ (List.mem_append_right _ hq))
  have hm28 : (q20, ob 13 [.int (nI kd), .int (nI (mN M)), .int (nI (gF g)), .int (lT (mL M)), .int (nI n), .int 0, .int (bI y), .int 0, .ref la21, .null]) ∈ ((q20, ob 13 [.int (nI kd), .int (nI (mN M)), .int (nI (gF g)), .int (lT (mL M)), .int (nI n), .int 0, .int (bI y), .int 0, .ref la21, .null]) :: (w22 ++ (fz))) := (List.mem_cons_self)
  have hm29 : ∀ q ∈ w22, q ∈ ((q20, ob 13 [.int (nI kd), .int (nI (mN M)), .int (nI (gF g)), .int (lT (mL M)), .int (nI n), .int 0, .int (bI y), .int 0, .ref la21, .null]) :: (w22 ++ (fz))) := fun q hq => (List.mem_cons_of_mem _ (List.mem_append_left _ hq))
  generalize ((q20, ob 13 [.int (nI kd), .int (nI (mN M)), .int (nI (gF g)), .int (lT (mL M)), .int (nI n), .int 0, .int (bI y), .int 0, .ref la21, .null]) :: (w22 ++ (fz))) = fz26 at hx27 hm28 hm29 ⊢
  have h30 := MBL.mono hx27 hB
  have h31 := MTIn.mono hx27 hsp19
  have h32 := KpIn.mono hx27 hV12
  have h33 := IsMM.mono hx27 hM24
  have hmm : GMIn E fz26 q20 (mkA kd M (gF g) y n) := ⟨_, _, [], _, hm28, hm29, ⟨h23.al, fun g hg => absurd hg List.not_mem_nil⟩, rfl, fun z => absurd z hkd⟩
  refine g_callV hX (pc := 49) kX4_put (mt_W_put E l wd sz ma lb nw r0 r1 r2 r3 mo B wb fz26 q20 (mkA kd M (gF g) y n) h30 hmm (hn)) q1934 fcX4 (sp_mem (i := 2) rfl) [2, 3, 0] rfl rfl rfl (Nat.le_of_ble_eq_true rfl) (Nat.le_of_ble_eq_true rfl) (Nat.le_of_ble_eq_true rfl) (by omega) (by omega) dX4_back_49 (fun v w1 hp => ?_)
  obtain ⟨w134, h35, rfl, rfl⟩ := hp
  refine g_nrm (cs1 := [[(wd, ob 3 [.int (nI sz), .ref ma, .ref lb, .int nw, .int (Prod.snd (bSend B (mkA kd M (gF g) y n))), .ref r0, .ref r1, .ref r2, .ref r3, .ref mo])], w134, fz26, wk25, [(ma, qA (aC E 4) sz (idA as))]]) (st1 := []) rfl rfl ?_
  refine g_pk [0, 3, 2, 0, 0] rfl ?_
  refine g_cs (cs1 := [[(wd, ob 3 [.int (nI sz), .ref ma, .ref lb, .int nw, .int (Prod.snd (bSend B (mkA kd M (gF g) y n))), .ref r0, .ref r1, .ref r2, .ref r3, .ref mo])], [(ma, qA (aC E 4) sz (idA as))], wk25, w134, fz26]) rfl ?_
  refine g_vret hX (pc := 52) hR ?_ (by omega) (by omega) dX4_back_52
  exact ⟨_, _, _, hx27, h33, h35, rfl, rfl⟩
