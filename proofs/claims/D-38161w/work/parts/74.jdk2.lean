set_option maxHeartbeats 4000000 in
theorem mt_AL_rcfa (E : EE) (l : Launch) (a : Nat) (m0 : Int32) (arr : Nat) (n : Int32) (i : Int32) (hk : (¬ n < i)) (hn : (¬ i < 0)) : Mt E l yJ2_rangeCheckForAdd cJ2_rangeCheckForAdd 2 none 1 0 0 1 [.ref a, .int i] [[(a, ob 15 [.int m0, .ref arr, .int n])]] (fun (v_ : Option Value) (cs_ : List va_W) => v_ = none ∧ cs_ = [[(a, ob 15 [.int m0, .ref arr, .int n])]]) := by
  refine Mt.of (by decide) (Nat.le_of_ble_eq_true rfl) (fun X hX hR hin => ?_)
  refine g_lv1 (lv1 := [(0, .ref a), (1, .int i)]) rfl ?_
  refine g_iload_n hX (pc := 0) dJ2_rangeCheckForAdd_0 1 rfl ?_
  refine g_aload_n hX (pc := 1) dJ2_rangeCheckForAdd_1 0 rfl ?_
  refine g_get hX (pc := 2) fcJ2 0 rfl 2 (by decide) q143 rfl (v := .int n) rfl dJ2_rangeCheckForAdd_2 ?_
  refine g_icmp_gt hX (pc := 5) (tgt := 12) dJ2_rangeCheckForAdd_5 rfl (fun c1 => ?_) (fun c1 => ?_)
  · exact absurd c1 hk
  · refine g_iload_n hX (pc := 8) dJ2_rangeCheckForAdd_8 1 rfl ?_
    refine g_if_ge hX (pc := 9) (tgt := 25) dJ2_rangeCheckForAdd_9 rfl (fun c2 => ?_) (fun c2 => ?_)
    · refine g_vret hX (pc := 25) hR ?_ (Nat.le_of_ble_eq_true rfl) (Nat.le_of_ble_eq_true rfl) dJ2_rangeCheckForAdd_25
      exact ⟨rfl, rfl⟩
    · exact absurd (Int32.not_lt.mp hn) c2

set_option maxHeartbeats 4000000 in
theorem mt_AL_addAt (E : EE) (l : Launch) (a : Nat) (as : List Nat) (w : va_W) (k : Nat) (x : Nat) (el : va_W) (N : Nat) (hw : AL E a as w) (hk0 : (k ≤ as.length)) (hN : (as.length ≤ N)) (hN2 : (N ≤ 60000)) (hx : (okE E el x)) (hok : (okL E el as)) : Mt E l yJ2_add cJ2_add 5 none 5 1 (N + N + 10) 127 [.ref a, .int (nI k), .ref x] [w, el] (fun (v_ : Option Value) (cs_ : List va_W) => ∃ (w1 : va_W), AL E a (List.insertIdx as k x) w1 ∧ v_ = none ∧ cs_ = [w1, el]) := by
  obtain ⟨m0, arr, cap, f, h1, h2, h3, hc⟩ := hw
  have hle : (List.insertIdx as k x).length = as.length + 1 := by rw [List.length_insertIdx, if_pos hk0]
  have he : nI (List.insertIdx as k x).length = nI (as.length + 1) := by rw [hle]
  have hk : ∀ i, i < as.length → ∀ y, f i = some y → okE E el y := fun i hi y hy => hok.get (i := i) (by rw [← h3 i hi]; exact hy)
  have hc4 : (as.length < cap ∧ w = [(a, ob 15 [.int m0, .ref arr, .int (nI as.length)]), (arr, qA (aC E 2) cap f)]) ∨ (as.length = cap ∧ 1 ≤ cap ∧ w = [(a, ob 15 [.int m0, .ref arr, .int (nI as.length)]), (arr, qA (aC E 2) cap f)]) ∨ (as = [] ∧ arr = aX E 0 ∧ w = [(a, ob 15 [.int m0, .ref arr, .int (nI as.length)])]) ∨ (as = [] ∧ arr = aX E 1 ∧ w = [(a, ob 15 [.int m0, .ref arr, .int (nI as.length)])]) := by
    rcases hc with ⟨h4, h5⟩ | ⟨h4, h5, h6⟩
    · rcases Nat.lt_or_ge as.length cap with h6 | h6
      · exact Or.inl ⟨h6, h5⟩
      · exact Or.inr (Or.inl ⟨by omega, h4, h5⟩)
    · have h7 : as = [] := List.eq_nil_of_length_eq_zero (by omega)
      rcases h5 with h5 | h5
      · exact Or.inr (Or.inr (Or.inl ⟨h7, h5, h6⟩))
      · exact Or.inr (Or.inr (Or.inr ⟨h7, h5, h6⟩))
  rcases hc4 with ⟨h5, rfl⟩ | ⟨rfl, h4, rfl⟩ | ⟨rfl, harr0, rfl⟩ | ⟨rfl, harr1, rfl⟩
  · refine Mt.of (by decide) (Nat.le_of_ble_eq_true rfl) (fun X hX hR hin => ?_)
    refine g_lv1 (lv1 := [(0, .ref a), (1, .int (nI k)), (2, .ref x)]) rfl ?_
    refine g_fl (cs1 := [[(a, ob 15 [.int m0, .ref arr, .int (nI as.length)])], [(arr, qA (aC E 2) cap f)], el]) rfl ?_
    refine g_aload_n hX (pc := 0) dJ2_add_0 0 rfl ?_
    refine g_iload_n hX (pc := 1) dJ2_add_1 1 rfl ?_
    refine g_callV hX (pc := 2) kJ2_rangeCheckForAdd (mt_AL_rcfa E l a m0 arr (nI as.length) (nI k) (nI_nlt (by omega) (by omega)) (nI_pos (by omega))) q299 fcJ2 (sp_mem (i := 0) rfl) [0] rfl rfl rfl (Nat.le_of_ble_eq_true rfl) (Nat.le_of_ble_eq_true rfl) (Nat.le_of_ble_eq_true rfl) (by omega) (by omega) dJ2_add_2 (fun v w1 hp => ?_)
    obtain ⟨rfl, rfl⟩ := hp
    refine g_nrm (cs1 := [[(a, ob 15 [.int m0, .ref arr, .int (nI as.length)])], [(arr, qA (aC E 2) cap f)], el]) (st1 := []) rfl rfl ?_
    refine g_aload_n hX (pc := 5) dJ2_add_5 0 rfl ?_
    refine g_dup hX (pc := 6) dJ2_add_6 rfl ?_
    refine g_getU hX (pc := 7) fcJ2 0 rfl 0 (by decide) q147 q146 (v := .int m0) rfl dJ2_add_7 ?_
    refine g_iconst hX (pc := 10) (v := 1) dJ2_add_10 (by decide) ?_
    refine g_iadd hX (pc := 11) dJ2_add_11 ?_
    refine g_putU hX (pc := 12) fcJ2 0 (fs1 := [.int (m0 + 1), .ref arr, .int (nI as.length)]) (cs1 := [[(a, ob 15 [.int (m0 + 1), .ref arr, .int (nI as.length)])], [(arr, qA (aC E 2) cap f)], el]) rfl 0 (by decide) q147 q146 rfl rfl rfl (Nat.le_of_ble_eq_true rfl) rfl rfl dJ2_add_12 ?_
    refine g_aload_n hX (pc := 15) dJ2_add_15 0 rfl ?_
    refine g_get hX (pc := 16) fcJ2 0 rfl 2 (by decide) q143 rfl (v := .int (nI as.length)) rfl dJ2_add_16 ?_
    refine g_dup hX (pc := 19) dJ2_add_19 rfl ?_
    refine g_istore_n hX (pc := 20) (lv1 := [(3, .int (nI as.length)), (0, .ref a), (1, .int (nI k)), (2, .ref x)]) dJ2_add_20 (by decide) rfl ?_
    refine g_aload_n hX (pc := 21) dJ2_add_21 1 rfl ?_
    refine g_get hX (pc := 22) fcJ2 0 rfl 1 (by decide) q140 rfl (v := .ref arr) rfl dJ2_add_22 ?_
    refine g_dup hX (pc := 25) dJ2_add_25 rfl ?_
    refine g_astore hX (pc := 26) (lv1 := [(4, .ref arr), (3, .int (nI as.length)), (0, .ref a), (1, .int (nI k)), (2, .ref x)]) dJ2_add_26 (by decide) rfl ?_
    refine g_alen hX (pc := 28) (sp_mem (i := 1) rfl) 2 rfl (v := (nI cap)) rfl dJ2_add_28 ?_
    refine g_icmp_ne hX (pc := 29) (tgt := 38) dJ2_add_29 rfl (fun c1 => ?_) (fun c1 => ?_)
    · refine g_aload hX (pc := 38) dJ2_add_38 0 rfl ?_
      refine g_iload_n hX (pc := 40) dJ2_add_40 3 rfl ?_
      refine g_aload hX (pc := 41) dJ2_add_41 0 rfl ?_
      refine g_iload_n hX (pc := 43) dJ2_add_43 3 rfl ?_
      refine g_iconst hX (pc := 44) (v := 1) dJ2_add_44 (by decide) ?_
      refine g_iadd hX (pc := 45) dJ2_add_45 ?_
      refine g_eqi (nI (k + 1)) (nI_1 k) ?_
      refine g_iload_n hX (pc := 46) dJ2_add_46 1 rfl ?_
      refine g_iload_n hX (pc := 47) dJ2_add_47 3 rfl ?_
      refine g_isub hX (pc := 48) dJ2_add_48 ?_
      refine g_eqi (nI (as.length - k)) (pk_sub (by omega)) ?_
      refine g_copyq hX (pc := 49) q681 q_ac1 q_ac2 q_ac3 (sp_mem (i := 1) rfl) 1 (cs1 := [[(a, ob 15 [.int (m0 + 1), .ref arr, .int (nI as.length)])], [(arr, qA (aC E 2) cap (va_cpy f f k (k + 1) (as.length - k)))], el]) rfl (nI_pos (by omega)) (nI_pos (by omega)) (nI_pos (by omega)) (by rw [nI_clamp (by omega), nI_clamp (by omega)]; omega) (by rw [nI_clamp (by omega), nI_clamp (by omega)]; omega) (fun H locs hP hS i hi y hy => any_ok hX hP hS (el := el) (fun q hq => sp_in 2 rfl hq) (hk (k + i) (by rw [nI_clamp (by omega)] at hi; omega) y (by rw [nI_clamp (by omega)] at hy; exact hy))) (g1 := (va_cpy f f k (k + 1) (as.length - k))) (by rw [nI_clamp (by omega), nI_clamp (by omega), nI_clamp (by omega)]) rfl (Nat.le_of_ble_eq_true rfl) (Nat.le_of_ble_eq_true rfl) dJ2_add_49 ?_
      refine g_aload hX (pc := 52) dJ2_add_52 0 rfl ?_
      refine g_iload_n hX (pc := 54) dJ2_add_54 3 rfl ?_
      refine g_aload_n hX (pc := 55) dJ2_add_55 4 rfl ?_
      refine g_aast hX (pc := 56) (t0 := 2) rfl (f1 := (va_up (va_cpy f f k (k + 1) (as.length - k)) k (some x))) (cs1 := [[(a, ob 15 [.int (m0 + 1), .ref arr, .int (nI as.length)])], [(arr, qA (aC E 2) cap (va_up (va_cpy f f k (k + 1) (as.length - k)) k (some x)))], el]) 1 rfl (fun H locs hP hS => any_ok hX hP hS (el := el) (fun q hq => sp_in 2 rfl hq) hx) (vp_in_nI (by omega) (by omega)) (by rw [nI_clamp (by omega)]) rfl dJ2_add_56 ?_
      refine g_aload_n hX (pc := 57) dJ2_add_57 2 rfl ?_
      refine g_iload_n hX (pc := 58) dJ2_add_58 1 rfl ?_
      refine g_iconst hX (pc := 59) (v := 1) dJ2_add_59 (by decide) ?_
      refine g_iadd hX (pc := 60) dJ2_add_60 ?_
      refine g_eqi (nI (as.length + 1)) (nI_1 _) ?_
      refine g_put hX (pc := 61) fcJ2 0 (fs1 := [.int (m0 + 1), .ref arr, .int (nI (as.length + 1))]) (cs1 := [[(a, ob 15 [.int (m0 + 1), .ref arr, .int (nI (as.length + 1))])], [(arr, qA (aC E 2) cap (va_up (va_cpy f f k (k + 1) (as.length - k)) k (some x)))], el]) rfl 2 (by decide) q143 rfl rfl rfl rfl (Nat.le_of_ble_eq_true rfl) rfl rfl dJ2_add_61 ?_
      refine g_cs (cs1 := [[(a, ob 15 [.int (m0 + 1), .ref arr, .int (nI (List.length (List.insertIdx as k x)))])], [(arr, qA (aC E 2) cap (va_up (va_cpy f f k (k + 1) (as.length - k)) k (some x)))], el]) (by rw [he]) ?_
      refine g_pk [0, 0] rfl ?_
      refine g_fl (cs1 := [[(a, ob 15 [.int (m0 + 1), .ref arr, .int (nI (List.length (List.insertIdx as k x)))]), (arr, qA (aC E 2) cap (va_up (va_cpy f f k (k + 1) (as.length - k)) k (some x)))], el]) rfl ?_
      refine g_vret hX (pc := 64) hR ?_ (by omega) (by omega) dJ2_add_64
      exact ⟨_, ⟨m0 + 1, _, cap, (va_up (va_cpy f f k (k + 1) (as.length - k)) k (some x)), by omega, h2, al_ins hk0 h3, Or.inl ⟨by omega, rfl⟩⟩, rfl, rfl⟩
    · exact absurd ((nI_eq (by omega) (by omega)).mp c1) (by omega)
  · refine Mt.of (by decide) (Nat.le_of_ble_eq_true rfl) (fun X hX hR hin => ?_)
    refine g_lv1 (lv1 := [(0, .ref a), (1, .int (nI k)), (2, .ref x)]) rfl ?_
    refine g_fl (cs1 := [[(a, ob 15 [.int m0, .ref arr, .int (nI as.length)])], [(arr, qA (aC E 2) as.length f)], el]) rfl ?_
    refine g_aload_n hX (pc := 0) dJ2_add_0 0 rfl ?_
    refine g_iload_n hX (pc := 1) dJ2_add_1 1 rfl ?_
    refine g_callV hX (pc := 2) kJ2_rangeCheckForAdd (mt_AL_rcfa E l a m0 arr (nI as.length) (nI k) (nI_nlt (by omega) (by omega)) (nI_pos (by omega))) q299 fcJ2 (sp_mem (i := 0) rfl) [0] rfl rfl rfl (Nat.le_of_ble_eq_true rfl) (Nat.le_of_ble_eq_true rfl) (Nat.le_of_ble_eq_true rfl) (by omega) (by omega) dJ2_add_2 (fun v w1 hp => ?_)
    obtain ⟨rfl, rfl⟩ := hp
    refine g_nrm (cs1 := [[(a, ob 15 [.int m0, .ref arr, .int (nI as.length)])], [(arr, qA (aC E 2) as.length f)], el]) (st1 := []) rfl rfl ?_
    refine g_aload_n hX (pc := 5) dJ2_add_5 0 rfl ?_
    refine g_dup hX (pc := 6) dJ2_add_6 rfl ?_
    refine g_getU hX (pc := 7) fcJ2 0 rfl 0 (by decide) q147 q146 (v := .int m0) rfl dJ2_add_7 ?_
    refine g_iconst hX (pc := 10) (v := 1) dJ2_add_10 (by decide) ?_
    refine g_iadd hX (pc := 11) dJ2_add_11 ?_
    refine g_putU hX (pc := 12) fcJ2 0 (fs1 := [.int (m0 + 1), .ref arr, .int (nI as.length)]) (cs1 := [[(a, ob 15 [.int (m0 + 1), .ref arr, .int (nI as.length)])], [(arr, qA (aC E 2) as.length f)], el]) rfl 0 (by decide) q147 q146 rfl rfl rfl (Nat.le_of_ble_eq_true rfl) rfl rfl dJ2_add_12 ?_
    refine g_aload_n hX (pc := 15) dJ2_add_15 0 rfl ?_
    refine g_get hX (pc := 16) fcJ2 0 rfl 2 (by decide) q143 rfl (v := .int (nI as.length)) rfl dJ2_add_16 ?_
    refine g_dup hX (pc := 19) dJ2_add_19 rfl ?_
    refine g_istore_n hX (pc := 20) (lv1 := [(3, .int (nI as.length)), (0, .ref a), (1, .int (nI k)), (2, .ref x)]) dJ2_add_20 (by decide) rfl ?_
    refine g_aload_n hX (pc := 21) dJ2_add_21 1 rfl ?_
    refine g_get hX (pc := 22) fcJ2 0 rfl 1 (by decide) q140 rfl (v := .ref arr) rfl dJ2_add_22 ?_
    refine g_dup hX (pc := 25) dJ2_add_25 rfl ?_
    refine g_astore hX (pc := 26) (lv1 := [(4, .ref arr), (3, .int (nI as.length)), (0, .ref a), (1, .int (nI k)), (2, .ref x)]) dJ2_add_26 (by decide) rfl ?_
    refine g_alen hX (pc := 28) (sp_mem (i := 1) rfl) 2 rfl (v := (nI as.length)) rfl dJ2_add_28 ?_
    refine g_icmp_ne hX (pc := 29) (tgt := 38) dJ2_add_29 rfl (fun c1 => ?_) (fun c1 => ?_)
    · exact absurd rfl c1
    · refine g_aload_n hX (pc := 32) dJ2_add_32 2 rfl ?_
      refine g_callV hX (pc := 33) kJ2_grow (mt_growO E l a (m0 + 1) arr as.length f el (by omega) (by omega) (hk)) q631 fcJ2 (sp_mem (i := 0) rfl) [0, 0, 0] rfl rfl rfl (Nat.le_of_ble_eq_true rfl) (Nat.le_of_ble_eq_true rfl) (Nat.le_of_ble_eq_true rfl) (by omega) (by omega) dJ2_add_33 (fun v w1 hp => ?_)
      obtain ⟨q2, rfl, rfl⟩ := hp
      refine g_nrm (cs1 := [[(a, ob 15 [.int (m0 + 1), .ref q2, .int (nI as.length)])], [(q2, qA (aC E 2) (as.length + max 1 (as.length / 2)) (va_cpy f (fun _ => none) 0 0 as.length))], el]) (st1 := [.ref q2]) rfl rfl ?_
      refine g_astore hX (pc := 36) (lv1 := [(4, .ref q2), (3, .int (nI as.length)), (0, .ref a), (1, .int (nI k)), (2, .ref x)]) dJ2_add_36 (by decide) rfl ?_
      refine g_aload hX (pc := 38) dJ2_add_38 0 rfl ?_
      refine g_iload_n hX (pc := 40) dJ2_add_40 3 rfl ?_
      refine g_aload hX (pc := 41) dJ2_add_41 0 rfl ?_
      refine g_iload_n hX (pc := 43) dJ2_add_43 3 rfl ?_
      refine g_iconst hX (pc := 44) (v := 1) dJ2_add_44 (by decide) ?_
      refine g_iadd hX (pc := 45) dJ2_add_45 ?_
      refine g_eqi (nI (k + 1)) (nI_1 k) ?_
      refine g_iload_n hX (pc := 46) dJ2_add_46 1 rfl ?_
      refine g_iload_n hX (pc := 47) dJ2_add_47 3 rfl ?_
      refine g_isub hX (pc := 48) dJ2_add_48 ?_
      refine g_eqi (nI (as.length - k)) (pk_sub (by omega)) ?_
      refine g_copyq hX (pc := 49) q681 q_ac1 q_ac2 q_ac3 (sp_mem (i := 1) rfl) 1 (cs1 := [[(a, ob 15 [.int (m0 + 1), .ref q2, .int (nI as.length)])], [(q2, qA (aC E 2) (as.length + max 1 (as.length / 2)) (va_cpy (va_cpy f (fun _ => none) 0 0 as.length) (va_cpy f (fun _ => none) 0 0 as.length) k (k + 1) (as.length - k)))], el]) rfl (nI_pos (by omega)) (nI_pos (by omega)) (nI_pos (by omega)) (by rw [nI_clamp (by omega), nI_clamp (by omega)]; omega) (by rw [nI_clamp (by omega), nI_clamp (by omega)]; omega) (fun H locs hP hS i hi y hy => any_ok hX hP hS (el := el) (fun q hq => sp_in 2 rfl hq) (hk (k + i) (by rw [nI_clamp (by omega)] at hi; omega) y (by rw [nI_clamp (by omega)] at hi hy; rw [← hy]; rw [pk_cpy_in (by omega) (by omega)]; congr 1; omega))) (g1 := (va_cpy (va_cpy f (fun _ => none) 0 0 as.length) (va_cpy f (fun _ => none) 0 0 as.length) k (k + 1) (as.length - k))) (by rw [nI_clamp (by omega), nI_clamp (by omega), nI_clamp (by omega)]) rfl (Nat.le_of_ble_eq_true rfl) (Nat.le_of_ble_eq_true rfl) dJ2_add_49 ?_
      refine g_aload hX (pc := 52) dJ2_add_52 0 rfl ?_
      refine g_iload_n hX (pc := 54) dJ2_add_54 3 rfl ?_
      refine g_aload_n hX (pc := 55) dJ2_add_55 4 rfl ?_
      refine g_aast hX (pc := 56) (t0 := 2) rfl (f1 := (va_up (va_cpy (va_cpy f (fun _ => none) 0 0 as.length) (va_cpy f (fun _ => none) 0 0 as.length) k (k + 1) (as.length - k)) k (some x))) (cs1 := [[(a, ob 15 [.int (m0 + 1), .ref q2, .int (nI as.length)])], [(q2, qA (aC E 2) (as.length + max 1 (as.length / 2)) (va_up (va_cpy (va_cpy f (fun _ => none) 0 0 as.length) (va_cpy f (fun _ => none) 0 0 as.length) k (k + 1) (as.length - k)) k (some x)))], el]) 1 rfl (fun H locs hP hS => any_ok hX hP hS (el := el) (fun q hq => sp_in 2 rfl hq) hx) (vp_in_nI (by omega) (by omega)) (by rw [nI_clamp (by omega)]) rfl dJ2_add_56 ?_
      refine g_aload_n hX (pc := 57) dJ2_add_57 2 rfl ?_
      refine g_iload_n hX (pc := 58) dJ2_add_58 1 rfl ?_
      refine g_iconst hX (pc := 59) (v := 1) dJ2_add_59 (by decide) ?_
      refine g_iadd hX (pc := 60) dJ2_add_60 ?_
      refine g_eqi (nI (as.length + 1)) (nI_1 _) ?_
      refine g_put hX (pc := 61) fcJ2 0 (fs1 := [.int (m0 + 1), .ref q2, .int (nI (as.length + 1))]) (cs1 := [[(a, ob 15 [.int (m0 + 1), .ref q2, .int (nI (as.length + 1))])], [(q2, qA (aC E 2) (as.length + max 1 (as.length / 2)) (va_up (va_cpy (va_cpy f (fun _ => none) 0 0 as.length) (va_cpy f (fun _ => none) 0 0 as.length) k (k + 1) (as.length - k)) k (some x)))], el]) rfl 2 (by decide) q143 rfl rfl rfl rfl (Nat.le_of_ble_eq_true rfl) rfl rfl dJ2_add_61 ?_
      refine g_cs (cs1 := [[(a, ob 15 [.int (m0 + 1), .ref q2, .int (nI (List.length (List.insertIdx as k x)))])], [(q2, qA (aC E 2) (as.length + max 1 (as.length / 2)) (va_up (va_cpy (va_cpy f (fun _ => none) 0 0 as.length) (va_cpy f (fun _ => none) 0 0 as.length) k (k + 1) (as.length - k)) k (some x)))], el]) (by rw [he]) ?_
      refine g_pk [0, 0] rfl ?_
      refine g_fl (cs1 := [[(a, ob 15 [.int (m0 + 1), .ref q2, .int (nI (List.length (List.insertIdx as k x)))]), (q2, qA (aC E 2) (as.length + max 1 (as.length / 2)) (va_up (va_cpy (va_cpy f (fun _ => none) 0 0 as.length) (va_cpy f (fun _ => none) 0 0 as.length) k (k + 1) (as.length - k)) k (some x)))], el]) rfl ?_
      refine g_vret hX (pc := 64) hR ?_ (by omega) (by omega) dJ2_add_64
      exact ⟨_, ⟨m0 + 1, _, _, (va_up (va_cpy (va_cpy f (fun _ => none) 0 0 as.length) (va_cpy f (fun _ => none) 0 0 as.length) k (k + 1) (as.length - k)) k (some x)), by omega, by omega, al_ins hk0 (al_cpy (Nat.le_refl _) h3), Or.inl ⟨by omega, rfl⟩⟩, rfl, rfl⟩
  · have hk1 : k ≤ 0 := hk0
    have harr : arr = aX E 0 ∨ arr = aX E 1 := Or.inl harr0
    refine Mt.of (by decide) (Nat.le_of_ble_eq_true rfl) (fun X hX hR hin => ?_)
    refine g_lv1 (lv1 := [(0, .ref a), (1, .int (nI k)), (2, .ref x)]) rfl ?_
    refine g_fl (cs1 := [[(a, ob 15 [.int m0, .ref arr, .int 0])], el]) rfl ?_
    refine g_aload_n hX (pc := 0) dJ2_add_0 0 rfl ?_
    refine g_iload_n hX (pc := 1) dJ2_add_1 1 rfl ?_
    refine g_callV hX (pc := 2) kJ2_rangeCheckForAdd (mt_AL_rcfa E l a m0 arr 0 (nI k) (by rw [← nI_0]; exact nI_nlt (by omega) (by omega)) (nI_pos (by omega))) q299 fcJ2 (sp_mem (i := 0) rfl) [0] rfl rfl rfl (Nat.le_of_ble_eq_true rfl) (Nat.le_of_ble_eq_true rfl) (Nat.le_of_ble_eq_true rfl) (by omega) (by omega) dJ2_add_2 (fun v w1 hp => ?_)
    obtain ⟨rfl, rfl⟩ := hp
    refine g_nrm (cs1 := [[(a, ob 15 [.int m0, .ref arr, .int 0])], el]) (st1 := []) rfl rfl ?_
    refine g_aload_n hX (pc := 5) dJ2_add_5 0 rfl ?_
    refine g_dup hX (pc := 6) dJ2_add_6 rfl ?_
    refine g_getU hX (pc := 7) fcJ2 0 rfl 0 (by decide) q147 q146 (v := .int m0) rfl dJ2_add_7 ?_
    refine g_iconst hX (pc := 10) (v := 1) dJ2_add_10 (by decide) ?_
    refine g_iadd hX (pc := 11) dJ2_add_11 ?_
    refine g_putU hX (pc := 12) fcJ2 0 (fs1 := [.int (m0 + 1), .ref arr, .int 0]) (cs1 := [[(a, ob 15 [.int (m0 + 1), .ref arr, .int 0])], el]) rfl 0 (by decide) q147 q146 rfl rfl rfl (Nat.le_of_ble_eq_true rfl) rfl rfl dJ2_add_12 ?_
    refine g_aload_n hX (pc := 15) dJ2_add_15 0 rfl ?_
    refine g_get hX (pc := 16) fcJ2 0 rfl 2 (by decide) q143 rfl (v := .int 0) rfl dJ2_add_16 ?_
    refine g_dup hX (pc := 19) dJ2_add_19 rfl ?_
    refine g_istore_n hX (pc := 20) (lv1 := [(3, .int 0), (0, .ref a), (1, .int (nI k)), (2, .ref x)]) dJ2_add_20 (by decide) rfl ?_
    refine g_aload_n hX (pc := 21) dJ2_add_21 1 rfl ?_
    refine g_get hX (pc := 22) fcJ2 0 rfl 1 (by decide) q140 rfl (v := .ref arr) rfl dJ2_add_22 ?_
    refine g_dup hX (pc := 25) dJ2_add_25 rfl ?_
    refine g_astore hX (pc := 26) (lv1 := [(4, .ref arr), (3, .int 0), (0, .ref a), (1, .int (nI k)), (2, .ref x)]) dJ2_add_26 (by decide) rfl ?_
    refine g_tlen hX (pc := 28) (cx_T0 hX harr) (v := 0) rfl dJ2_add_28 ?_
    refine g_icmp_ne hX (pc := 29) (tgt := 38) dJ2_add_29 rfl (fun c1 => ?_) (fun c1 => ?_)
    · exact absurd c1 (by decide)
    · refine g_aload_n hX (pc := 32) dJ2_add_32 2 rfl ?_
      refine g_callV hX (pc := 33) kJ2_grow (mt_growD E l a (m0 + 1) arr (harr0)) q631 fcJ2 (sp_mem (i := 0) rfl) [0] rfl rfl rfl (Nat.le_of_ble_eq_true rfl) (Nat.le_of_ble_eq_true rfl) (Nat.le_of_ble_eq_true rfl) (by omega) (by omega) dJ2_add_33 (fun v w1 hp => ?_)
      obtain ⟨q2, rfl, rfl⟩ := hp
      refine g_nrm (cs1 := [[(a, ob 15 [.int (m0 + 1), .ref q2, .int 0])], [(q2, qA (aC E 2) 10 (fun _ => none))], el]) (st1 := [.ref q2]) rfl rfl ?_
      refine g_astore hX (pc := 36) (lv1 := [(4, .ref q2), (3, .int 0), (0, .ref a), (1, .int (nI k)), (2, .ref x)]) dJ2_add_36 (by decide) rfl ?_
      refine g_aload hX (pc := 38) dJ2_add_38 0 rfl ?_
      refine g_iload_n hX (pc := 40) dJ2_add_40 3 rfl ?_
      refine g_aload hX (pc := 41) dJ2_add_41 0 rfl ?_
      refine g_iload_n hX (pc := 43) dJ2_add_43 3 rfl ?_
      refine g_iconst hX (pc := 44) (v := 1) dJ2_add_44 (by decide) ?_
      refine g_iadd hX (pc := 45) dJ2_add_45 ?_
      refine g_eqi (nI (k + 1)) (nI_1 k) ?_
      refine g_iload_n hX (pc := 46) dJ2_add_46 1 rfl ?_
      refine g_iload_n hX (pc := 47) dJ2_add_47 3 rfl ?_
      refine g_isub hX (pc := 48) dJ2_add_48 ?_
      refine g_eqi (nI (0 - k)) (by rw [show (0 : Int32) = nI 0 from rfl, pk_sub (by omega)]) ?_
      refine g_copyq hX (pc := 49) q681 q_ac1 q_ac2 q_ac3 (sp_mem (i := 1) rfl) 1 (cs1 := [[(a, ob 15 [.int (m0 + 1), .ref q2, .int 0])], [(q2, qA (aC E 2) 10 (va_cpy (fun _ => none) (fun _ => none) k (k + 1) (0 - k)))], el]) rfl (nI_pos (by omega)) (nI_pos (by omega)) (nI_pos (by omega)) (by rw [nI_clamp (by omega), nI_clamp (by omega)]; omega) (by rw [nI_clamp (by omega), nI_clamp (by omega)]; omega) (fun H locs hP hS i hi y hy => any_ok hX hP hS (el := el) (fun q hq => sp_in 2 rfl hq) (absurd hy (by simp))) (g1 := (va_cpy (fun _ => none) (fun _ => none) k (k + 1) (0 - k))) (by rw [nI_clamp (by omega), nI_clamp (by omega), nI_clamp (by omega)]) rfl (Nat.le_of_ble_eq_true rfl) (Nat.le_of_ble_eq_true rfl) dJ2_add_49 ?_
      refine g_aload hX (pc := 52) dJ2_add_52 0 rfl ?_
      refine g_iload_n hX (pc := 54) dJ2_add_54 3 rfl ?_
      refine g_aload_n hX (pc := 55) dJ2_add_55 4 rfl ?_
      refine g_aast hX (pc := 56) (t0 := 2) rfl (f1 := (va_up (va_cpy (fun _ => none) (fun _ => none) k (k + 1) (0 - k)) k (some x))) (cs1 := [[(a, ob 15 [.int (m0 + 1), .ref q2, .int 0])], [(q2, qA (aC E 2) 10 (va_up (va_cpy (fun _ => none) (fun _ => none) k (k + 1) (0 - k)) k (some x)))], el]) 1 rfl (fun H locs hP hS => any_ok hX hP hS (el := el) (fun q hq => sp_in 2 rfl hq) hx) (vp_in_nI (by omega) (by omega)) (by rw [nI_clamp (by omega)]) rfl dJ2_add_56 ?_
      refine g_aload_n hX (pc := 57) dJ2_add_57 2 rfl ?_
      refine g_iload_n hX (pc := 58) dJ2_add_58 1 rfl ?_
      refine g_iconst hX (pc := 59) (v := 1) dJ2_add_59 (by decide) ?_
      refine g_iadd hX (pc := 60) dJ2_add_60 ?_
      refine g_eqi (nI (0 + 1)) (nI_1 _) ?_
      refine g_put hX (pc := 61) fcJ2 0 (fs1 := [.int (m0 + 1), .ref q2, .int (nI (0 + 1))]) (cs1 := [[(a, ob 15 [.int (m0 + 1), .ref q2, .int (nI (0 + 1))])], [(q2, qA (aC E 2) 10 (va_up (va_cpy (fun _ => none) (fun _ => none) k (k + 1) (0 - k)) k (some x)))], el]) rfl 2 (by decide) q143 rfl rfl rfl rfl (Nat.le_of_ble_eq_true rfl) rfl rfl dJ2_add_61 ?_
      refine g_cs (cs1 := [[(a, ob 15 [.int (m0 + 1), .ref q2, .int (nI (List.length (List.insertIdx ([] : List Nat) k x)))])], [(q2, qA (aC E 2) 10 (va_up (va_cpy (fun _ => none) (fun _ => none) k (k + 1) (0 - k)) k (some x)))], el]) (by rw [he]; rfl) ?_
      refine g_pk [0, 0] rfl ?_
      refine g_fl (cs1 := [[(a, ob 15 [.int (m0 + 1), .ref q2, .int (nI (List.length (List.insertIdx ([] : List Nat) k x)))]), (q2, qA (aC E 2) 10 (va_up (va_cpy (fun _ => none) (fun _ => none) k (k + 1) (0 - k)) k (some x)))], el]) rfl ?_
      refine g_vret hX (pc := 64) hR ?_ (by omega) (by omega) dJ2_add_64
      exact ⟨_, ⟨m0 + 1, _, 10, _, by simp [hle], by omega, al_ins (as := []) hk0 (fun i hi => absurd hi (Nat.not_lt_zero _)), Or.inl ⟨by omega, rfl⟩⟩, rfl, rfl⟩
  · have hk1 : k ≤ 0 := hk0
    have harr : arr = aX E 0 ∨ arr = aX E 1 := Or.inr harr1
    refine Mt.of (by decide) (Nat.le_of_ble_eq_true rfl) (fun X hX hR hin => ?_)
    refine g_lv1 (lv1 := [(0, .ref a), (1, .int (nI k)), (2, .ref x)]) rfl ?_
    refine g_fl (cs1 := [[(a, ob 15 [.int m0, .ref arr, .int 0])], el]) rfl ?_
    refine g_aload_n hX (pc := 0) dJ2_add_0 0 rfl ?_
    refine g_iload_n hX (pc := 1) dJ2_add_1 1 rfl ?_
    refine g_callV hX (pc := 2) kJ2_rangeCheckForAdd (mt_AL_rcfa E l a m0 arr 0 (nI k) (by rw [← nI_0]; exact nI_nlt (by omega) (by omega)) (nI_pos (by omega))) q299 fcJ2 (sp_mem (i := 0) rfl) [0] rfl rfl rfl (Nat.le_of_ble_eq_true rfl) (Nat.le_of_ble_eq_true rfl) (Nat.le_of_ble_eq_true rfl) (by omega) (by omega) dJ2_add_2 (fun v w1 hp => ?_)
    obtain ⟨rfl, rfl⟩ := hp
    refine g_nrm (cs1 := [[(a, ob 15 [.int m0, .ref arr, .int 0])], el]) (st1 := []) rfl rfl ?_
    refine g_aload_n hX (pc := 5) dJ2_add_5 0 rfl ?_
    refine g_dup hX (pc := 6) dJ2_add_6 rfl ?_
    refine g_getU hX (pc := 7) fcJ2 0 rfl 0 (by decide) q147 q146 (v := .int m0) rfl dJ2_add_7 ?_
    refine g_iconst hX (pc := 10) (v := 1) dJ2_add_10 (by decide) ?_
    refine g_iadd hX (pc := 11) dJ2_add_11 ?_
    refine g_putU hX (pc := 12) fcJ2 0 (fs1 := [.int (m0 + 1), .ref arr, .int 0]) (cs1 := [[(a, ob 15 [.int (m0 + 1), .ref arr, .int 0])], el]) rfl 0 (by decide) q147 q146 rfl rfl rfl (Nat.le_of_ble_eq_true rfl) rfl rfl dJ2_add_12 ?_
    refine g_aload_n hX (pc := 15) dJ2_add_15 0 rfl ?_
    refine g_get hX (pc := 16) fcJ2 0 rfl 2 (by decide) q143 rfl (v := .int 0) rfl dJ2_add_16 ?_
    refine g_dup hX (pc := 19) dJ2_add_19 rfl ?_
    refine g_istore_n hX (pc := 20) (lv1 := [(3, .int 0), (0, .ref a), (1, .int (nI k)), (2, .ref x)]) dJ2_add_20 (by decide) rfl ?_
    refine g_aload_n hX (pc := 21) dJ2_add_21 1 rfl ?_
    refine g_get hX (pc := 22) fcJ2 0 rfl 1 (by decide) q140 rfl (v := .ref arr) rfl dJ2_add_22 ?_
    refine g_dup hX (pc := 25) dJ2_add_25 rfl ?_
    refine g_astore hX (pc := 26) (lv1 := [(4, .ref arr), (3, .int 0), (0, .ref a), (1, .int (nI k)), (2, .ref x)]) dJ2_add_26 (by decide) rfl ?_
    refine g_tlen hX (pc := 28) (cx_T0 hX harr) (v := 0) rfl dJ2_add_28 ?_
    refine g_icmp_ne hX (pc := 29) (tgt := 38) dJ2_add_29 rfl (fun c1 => ?_) (fun c1 => ?_)
    · exact absurd c1 (by decide)
    · refine g_aload_n hX (pc := 32) dJ2_add_32 2 rfl ?_
      refine g_callV hX (pc := 33) kJ2_grow (mt_growE E l a (m0 + 1) arr (harr1)) q631 fcJ2 (sp_mem (i := 0) rfl) [0] rfl rfl rfl (Nat.le_of_ble_eq_true rfl) (Nat.le_of_ble_eq_true rfl) (Nat.le_of_ble_eq_true rfl) (by omega) (by omega) dJ2_add_33 (fun v w1 hp => ?_)
      obtain ⟨q2, rfl, rfl⟩ := hp
      refine g_nrm (cs1 := [[(a, ob 15 [.int (m0 + 1), .ref q2, .int 0])], [(q2, qA (aC E 2) 1 (fun _ => none))], el]) (st1 := [.ref q2]) rfl rfl ?_
      refine g_astore hX (pc := 36) (lv1 := [(4, .ref q2), (3, .int 0), (0, .ref a), (1, .int (nI k)), (2, .ref x)]) dJ2_add_36 (by decide) rfl ?_
      refine g_aload hX (pc := 38) dJ2_add_38 0 rfl ?_
      refine g_iload_n hX (pc := 40) dJ2_add_40 3 rfl ?_
      refine g_aload hX (pc := 41) dJ2_add_41 0 rfl ?_
      refine g_iload_n hX (pc := 43) dJ2_add_43 3 rfl ?_
      refine g_iconst hX (pc := 44) (v := 1) dJ2_add_44 (by decide) ?_
      refine g_iadd hX (pc := 45) dJ2_add_45 ?_
      refine g_eqi (nI (k + 1)) (nI_1 k) ?_
      refine g_iload_n hX (pc := 46) dJ2_add_46 1 rfl ?_
      refine g_iload_n hX (pc := 47) dJ2_add_47 3 rfl ?_
      refine g_isub hX (pc := 48) dJ2_add_48 ?_
      refine g_eqi (nI (0 - k)) (by rw [show (0 : Int32) = nI 0 from rfl, pk_sub (by omega)]) ?_
      refine g_copyq hX (pc := 49) q681 q_ac1 q_ac2 q_ac3 (sp_mem (i := 1) rfl) 1 (cs1 := [[(a, ob 15 [.int (m0 + 1), .ref q2, .int 0])], [(q2, qA (aC E 2) 1 (va_cpy (fun _ => none) (fun _ => none) k (k + 1) (0 - k)))], el]) rfl (nI_pos (by omega)) (nI_pos (by omega)) (nI_pos (by omega)) (by rw [nI_clamp (by omega), nI_clamp (by omega)]; omega) (by rw [nI_clamp (by omega), nI_clamp (by omega)]; omega) (fun H locs hP hS i hi y hy => any_ok hX hP hS (el := el) (fun q hq => sp_in 2 rfl hq) (absurd hy (by simp))) (g1 := (va_cpy (fun _ => none) (fun _ => none) k (k + 1) (0 - k))) (by rw [nI_clamp (by omega), nI_clamp (by omega), nI_clamp (by omega)]) rfl (Nat.le_of_ble_eq_true rfl) (Nat.le_of_ble_eq_true rfl) dJ2_add_49 ?_
      refine g_aload hX (pc := 52) dJ2_add_52 0 rfl ?_
      refine g_iload_n hX (pc := 54) dJ2_add_54 3 rfl ?_
      refine g_aload_n hX (pc := 55) dJ2_add_55 4 rfl ?_
      refine g_aast hX (pc := 56) (t0 := 2) rfl (f1 := (va_up (va_cpy (fun _ => none) (fun _ => none) k (k + 1) (0 - k)) k (some x))) (cs1 := [[(a, ob 15 [.int (m0 + 1), .ref q2, .int 0])], [(q2, qA (aC E 2) 1 (va_up (va_cpy (fun _ => none) (fun _ => none) k (k + 1) (0 - k)) k (some x)))], el]) 1 rfl (fun H locs hP hS => any_ok hX hP hS (el := el) (fun q hq => sp_in 2 rfl hq) hx) (vp_in_nI (by omega) (by omega)) (by rw [nI_clamp (by omega)]) rfl dJ2_add_56 ?_
      refine g_aload_n hX (pc := 57) dJ2_add_57 2 rfl ?_
      refine g_iload_n hX (pc := 58) dJ2_add_58 1 rfl ?_
      refine g_iconst hX (pc := 59) (v := 1) dJ2_add_59 (by decide) ?_
      refine g_iadd hX (pc := 60) dJ2_add_60 ?_
      refine g_eqi (nI (0 + 1)) (nI_1 _) ?_
      refine g_put hX (pc := 61) fcJ2 0 (fs1 := [.int (m0 + 1), .ref q2, .int (nI (0 + 1))]) (cs1 := [[(a, ob 15 [.int (m0 + 1), .ref q2, .int (nI (0 + 1))])], [(q2, qA (aC E 2) 1 (va_up (va_cpy (fun _ => none) (fun _ => none) k (k + 1) (0 - k)) k (some x)))], el]) rfl 2 (by decide) q143 rfl rfl rfl rfl (Nat.le_of_ble_eq_true rfl) rfl rfl dJ2_add_61 ?_
      refine g_cs (cs1 := [[(a, ob 15 [.int (m0 + 1), .ref q2, .int (nI (List.length (List.insertIdx ([] : List Nat) k x)))])], [(q2, qA (aC E 2) 1 (va_up (va_cpy (fun _ => none) (fun _ => none) k (k + 1) (0 - k)) k (some x)))], el]) (by rw [he]; rfl) ?_
      refine g_pk [0, 0] rfl ?_
      refine g_fl (cs1 := [[(a, ob 15 [.int (m0 + 1), .ref q2, .int (nI (List.length (List.insertIdx ([] : List Nat) k x)))]), (q2, qA (aC E 2) 1 (va_up (va_cpy (fun _ => none) (fun _ => none) k (k + 1) (0 - k)) k (some x)))], el]) rfl ?_
      refine g_vret hX (pc := 64) hR ?_ (by omega) (by omega) dJ2_add_64
      exact ⟨_, ⟨m0 + 1, _, 1, _, by simp [hle], by omega, al_ins (as := []) hk0 (fun i hi => absurd hi (Nat.not_lt_zero _)), Or.inl ⟨by omega, rfl⟩⟩, rfl, rfl⟩
