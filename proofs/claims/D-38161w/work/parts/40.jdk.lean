set_option maxHeartbeats 4000000 in
theorem mt_AC_init (E : EE) (l : Launch) (a : Nat) : Mt E l yJ0_init cJ0_init 1 none 1 0 0 12 [.ref a] [[(a, ob 15 [.int 0, .null, .int 0])]] (fun (v_ : Option Value) (cs_ : List va_W) => v_ = none ∧ cs_ = [[(a, ob 15 [.int 0, .null, .int 0])]]) := by
  refine Mt.of (by decide) (Nat.le_of_ble_eq_true rfl) (fun X hX hR hin => ?_)
  refine g_lv1 (lv1 := [(0, .ref a)]) rfl ?_
  refine g_aload_n hX (pc := 0) dJ0_init_0 0 rfl ?_
  refine g_objInit hX (pc := 1) q137 q_oi1 q_oi2 (Nat.le_of_ble_eq_true rfl) (Nat.le_of_ble_eq_true rfl) dJ0_init_1 ?_
  refine g_vret hX (pc := 4) hR ?_ (Nat.le_of_ble_eq_true rfl) (Nat.le_of_ble_eq_true rfl) dJ0_init_4
  exact ⟨rfl, rfl⟩

set_option maxHeartbeats 4000000 in
theorem mt_ALi_init (E : EE) (l : Launch) (a : Nat) : Mt E l yJ1_init cJ1_init 1 none 2 0 0 32 [.ref a] [[(a, ob 15 [.int 0, .null, .int 0])]] (fun (v_ : Option Value) (cs_ : List va_W) => v_ = none ∧ cs_ = [[(a, ob 15 [.int 0, .null, .int 0])]]) := by
  refine Mt.of (by decide) (Nat.le_of_ble_eq_true rfl) (fun X hX hR hin => ?_)
  refine g_lv1 (lv1 := [(0, .ref a)]) rfl ?_
  refine g_aload_n hX (pc := 0) dJ1_init_0 0 rfl ?_
  refine g_callI hX (pc := 1) kJ0_init (mt_AC_init E l a) q134 [0] rfl rfl rfl (Nat.le_of_ble_eq_true rfl) (Nat.le_of_ble_eq_true rfl) (Nat.le_of_ble_eq_true rfl) (Nat.le_of_ble_eq_true rfl) (Nat.le_of_ble_eq_true rfl) dJ1_init_1 (fun v w1 hp => ?_)
  obtain ⟨rfl, rfl⟩ := hp
  refine g_nrm (cs1 := [[(a, ob 15 [.int 0, .null, .int 0])]]) (st1 := []) rfl rfl ?_
  refine g_aload_n hX (pc := 4) dJ1_init_4 0 rfl ?_
  refine g_iconst hX (pc := 5) (v := 0) dJ1_init_5 (by decide) ?_
  refine g_put hX (pc := 6) fcJ2 0 (fs1 := [.int 0, .null, .int 0]) (cs1 := [[(a, ob 15 [.int 0, .null, .int 0])]]) rfl 0 (by decide) q144 rfl rfl rfl rfl (Nat.le_of_ble_eq_true rfl) rfl rfl dJ1_init_6 ?_
  refine g_vret hX (pc := 9) hR ?_ (Nat.le_of_ble_eq_true rfl) (Nat.le_of_ble_eq_true rfl) dJ1_init_9
  exact ⟨rfl, rfl⟩

set_option maxHeartbeats 4000000 in
theorem mt_AL_init (E : EE) (l : Launch) (a : Nat) : Mt E l yJ2_init cJ2_init 1 none 3 0 0 52 [.ref a] [[(a, ob 15 [.int 0, .null, .int 0])]] (fun (v_ : Option Value) (cs_ : List va_W) => ∃ (w : va_W), ALc E a [] 0 w ∧ v_ = none ∧ cs_ = [w]) := by
  refine Mt.of (by decide) (Nat.le_of_ble_eq_true rfl) (fun X hX hR hin => ?_)
  refine g_lv1 (lv1 := [(0, .ref a)]) rfl ?_
  refine g_aload_n hX (pc := 0) dJ2_init_0 0 rfl ?_
  refine g_callI hX (pc := 1) kJ1_init (mt_ALi_init E l a) q131 [0] rfl rfl rfl (Nat.le_of_ble_eq_true rfl) (Nat.le_of_ble_eq_true rfl) (Nat.le_of_ble_eq_true rfl) (Nat.le_of_ble_eq_true rfl) (Nat.le_of_ble_eq_true rfl) dJ2_init_1 (fun v w1 hp => ?_)
  obtain ⟨rfl, rfl⟩ := hp
  refine g_nrm (cs1 := [[(a, ob 15 [.int 0, .null, .int 0])]]) (st1 := []) rfl rfl ?_
  refine g_aload_n hX (pc := 4) dJ2_init_4 0 rfl ?_
  refine g_gets hX (pc := 5) (v := .ref (aX E 0)) (cx_gs hX).2.2.1 q138 rfl dJ2_init_5 ?_
  refine g_put hX (pc := 8) fcJ2 0 (fs1 := [.int 0, .ref (aX E 0), .int 0]) (cs1 := [[(a, ob 15 [.int 0, .ref (aX E 0), .int 0])]]) rfl 1 (by decide) q140 rfl rfl rfl rfl (Nat.le_of_ble_eq_true rfl) rfl rfl dJ2_init_8 ?_
  refine g_vret hX (pc := 11) hR ?_ (Nat.le_of_ble_eq_true rfl) (Nat.le_of_ble_eq_true rfl) dJ2_init_11
  exact ⟨_, ALc.nil, rfl, rfl⟩

set_option maxHeartbeats 4000000 in
theorem mt_Pre_checkIndex (E : EE) (l : Launch) (i : Int32) (n : Int32) (h0 : (¬ i < 0)) (h1 : (i < n)) : Mt E l yJ16_checkIndex cJ16_checkIndex 3 (some .int) 1 0 0 1 [.int i, .int n, .null] [] (fun (v_ : Option Value) (cs_ : List va_W) => v_ = some (.int i) ∧ cs_ = []) := by
  refine Mt.of (by decide) (Nat.le_of_ble_eq_true rfl) (fun X hX hR hin => ?_)
  refine g_lv1 (lv1 := [(0, .int i), (1, .int n), (2, .null)]) rfl ?_
  refine g_iload_n hX (pc := 0) dJ16_checkIndex_0 0 rfl ?_
  refine g_if_lt hX (pc := 1) (tgt := 9) dJ16_checkIndex_1 rfl (fun c1 => ?_) (fun c1 => ?_)
  · exact absurd c1 h0
  · refine g_iload_n hX (pc := 4) dJ16_checkIndex_4 0 rfl ?_
    refine g_iload_n hX (pc := 5) dJ16_checkIndex_5 1 rfl ?_
    refine g_icmp_lt hX (pc := 6) (tgt := 16) dJ16_checkIndex_6 rfl (fun c2 => ?_) (fun c2 => ?_)
    · refine g_iload_n hX (pc := 16) dJ16_checkIndex_16 0 rfl ?_
      refine g_iret hX (pc := 17) hR ?_ (Nat.le_of_ble_eq_true rfl) (Nat.le_of_ble_eq_true rfl) dJ16_checkIndex_17
      exact ⟨rfl, rfl⟩
    · exact absurd h1 c2

set_option maxHeartbeats 4000000 in
theorem mt_Obj_checkIndex (E : EE) (l : Launch) (i : Int32) (n : Int32) (h0 : (¬ i < 0)) (h1 : (i < n)) : Mt E l yJ15_checkIndex cJ15_checkIndex 2 (some .int) 2 0 0 23 [.int i, .int n] [] (fun (v_ : Option Value) (cs_ : List va_W) => v_ = some (.int i) ∧ cs_ = []) := by
  refine Mt.of (by decide) (Nat.le_of_ble_eq_true rfl) (fun X hX hR hin => ?_)
  refine g_lv1 (lv1 := [(0, .int i), (1, .int n)]) rfl ?_
  refine g_iload_n hX (pc := 0) dJ15_checkIndex_0 0 rfl ?_
  refine g_iload_n hX (pc := 1) dJ15_checkIndex_1 1 rfl ?_
  refine g_null hX (pc := 2) dJ15_checkIndex_2 ?_
  refine g_callS hX (pc := 3) kJ16_checkIndex (mt_Pre_checkIndex E l i n (h0) (h1)) q214 [] rfl rfl rfl (Nat.le_of_ble_eq_true rfl) (Nat.le_of_ble_eq_true rfl) (Nat.le_of_ble_eq_true rfl) (Nat.le_of_ble_eq_true rfl) (Nat.le_of_ble_eq_true rfl) dJ15_checkIndex_3 (fun v w1 hp => ?_)
  obtain ⟨rfl, rfl⟩ := hp
  refine g_nrm (cs1 := []) (st1 := [.int i]) rfl rfl ?_
  refine g_iret hX (pc := 6) hR ?_ (Nat.le_of_ble_eq_true rfl) (Nat.le_of_ble_eq_true rfl) dJ15_checkIndex_6
  exact ⟨rfl, rfl⟩

set_option maxHeartbeats 4000000 in
theorem mt_ALc_size (E : EE) (l : Launch) (a : Nat) (m0 : Int32) (arr : Nat) (n : Int32) : Mt E l yJ2_size cJ2_size 1 (some .int) 1 0 0 1 [.ref a] [[(a, ob 15 [.int m0, .ref arr, .int n])]] (fun (v_ : Option Value) (cs_ : List va_W) => v_ = some (.int n) ∧ cs_ = [[(a, ob 15 [.int m0, .ref arr, .int n])]]) := by
  refine Mt.of (by decide) (Nat.le_of_ble_eq_true rfl) (fun X hX hR hin => ?_)
  refine g_lv1 (lv1 := [(0, .ref a)]) rfl ?_
  refine g_aload_n hX (pc := 0) dJ2_size_0 0 rfl ?_
  refine g_get hX (pc := 1) fcJ2 0 rfl 2 (by decide) q143 rfl (v := .int n) rfl dJ2_size_1 ?_
  refine g_iret hX (pc := 4) hR ?_ (Nat.le_of_ble_eq_true rfl) (Nat.le_of_ble_eq_true rfl) dJ2_size_4
  exact ⟨rfl, rfl⟩

set_option maxHeartbeats 4000000 in
theorem mt_AL_size (E : EE) (l : Launch) (a : Nat) (as : List Nat) (w : va_W) (hw : AL E a as w) : Mt E l yJ2_size cJ2_size 1 (some .int) 1 0 0 1 [.ref a] [w] (fun (v_ : Option Value) (cs_ : List va_W) => v_ = some (.int (nI (List.length as))) ∧ cs_ = [w]) := by
  obtain ⟨m0, arr, cap, f, h1, h2, h3, hc⟩ := hw
  rcases hc with ⟨h4, rfl⟩ | ⟨rfl, harr, rfl⟩
  · refine Mt.of (by decide) (Nat.le_of_ble_eq_true rfl) (fun X hX hR hin => ?_)
    refine g_lv1 (lv1 := [(0, .ref a)]) rfl ?_
    refine g_fl (cs1 := [[(a, ob 15 [.int m0, .ref arr, .int (nI as.length)])], [(arr, qA (aC E 2) cap f)]]) rfl ?_
    refine g_aload_n hX (pc := 0) dJ2_size_0 0 rfl ?_
    refine g_get hX (pc := 1) fcJ2 0 rfl 2 (by decide) q143 rfl (v := .int (nI as.length)) rfl dJ2_size_1 ?_
    refine g_pk [0, 0] rfl ?_
    refine g_fl (cs1 := [[(a, ob 15 [.int m0, .ref arr, .int (nI as.length)]), (arr, qA (aC E 2) cap f)]]) rfl ?_
    refine g_iret hX (pc := 4) hR ?_ (Nat.le_of_ble_eq_true rfl) (Nat.le_of_ble_eq_true rfl) dJ2_size_4
    exact ⟨rfl, rfl⟩
  · refine Mt.of (by decide) (Nat.le_of_ble_eq_true rfl) (fun X hX hR hin => ?_)
    refine g_lv1 (lv1 := [(0, .ref a)]) rfl ?_
    refine g_fl (cs1 := [[(a, ob 15 [.int m0, .ref arr, .int (nI as.length)])]]) rfl ?_
    refine g_aload_n hX (pc := 0) dJ2_size_0 0 rfl ?_
    refine g_get hX (pc := 1) fcJ2 0 rfl 2 (by decide) q143 rfl (v := .int (nI as.length)) rfl dJ2_size_1 ?_
    refine g_pk [0] rfl ?_
    refine g_fl (cs1 := [[(a, ob 15 [.int m0, .ref arr, .int (nI as.length)])]]) rfl ?_
    refine g_iret hX (pc := 4) hR ?_ (Nat.le_of_ble_eq_true rfl) (Nat.le_of_ble_eq_true rfl) dJ2_size_4
    exact ⟨rfl, rfl⟩

set_option maxHeartbeats 4000000 in
theorem mt_AL_isEmpty (E : EE) (l : Launch) (a : Nat) (as : List Nat) (w : va_W) (hw : AL E a as w) (hb : (as.length ≤ 100000)) : Mt E l yJ2_isEmpty cJ2_isEmpty 1 (some .boolean) 1 0 0 1 [.ref a] [w] (fun (v_ : Option Value) (cs_ : List va_W) => v_ = some (.int (if List.length as = 0 then 1 else 0)) ∧ cs_ = [w]) := by
  obtain ⟨m0, arr, cap, f, h1, h2, h3, hc⟩ := hw
  have he : (nI as.length = 0) ↔ as.length = 0 := by rw [← nI_0, nI_eq (by omega) (by omega)]
  rcases hc with ⟨h4, rfl⟩ | ⟨rfl, harr, rfl⟩
  · refine Mt.of (by decide) (Nat.le_of_ble_eq_true rfl) (fun X hX hR hin => ?_)
    refine g_lv1 (lv1 := [(0, .ref a)]) rfl ?_
    refine g_fl (cs1 := [[(a, ob 15 [.int m0, .ref arr, .int (nI as.length)])], [(arr, qA (aC E 2) cap f)]]) rfl ?_
    refine g_aload_n hX (pc := 0) dJ2_isEmpty_0 0 rfl ?_
    refine g_get hX (pc := 1) fcJ2 0 rfl 2 (by decide) q143 rfl (v := .int (nI as.length)) rfl dJ2_isEmpty_1 ?_
    refine g_val (v := if (nI as.length) = 0 then 1 else 0) (pcJ := 12) (st1 := []) (fun hj1 => ?_) ?_
    · refine g_if_ne hX (pc := 4) (tgt := 11) dJ2_isEmpty_4 rfl (fun c2 => ?_) (fun c2 => ?_)
      · refine g_iconst hX (pc := 11) (v := 0) dJ2_isEmpty_11 (by decide) ?_
        exact hj1 _ (by rw [if_neg c2])
      · refine g_iconst hX (pc := 7) (v := 1) dJ2_isEmpty_7 (by decide) ?_
        refine g_goto hX (pc := 8) (tgt := 12) dJ2_isEmpty_8 rfl ?_
        exact hj1 _ (by rw [if_pos c2])
    refine g_pk [0, 0] rfl ?_
    refine g_fl (cs1 := [[(a, ob 15 [.int m0, .ref arr, .int (nI as.length)]), (arr, qA (aC E 2) cap f)]]) rfl ?_
    refine g_zret hX (pc := 12) hR (nz10 _) ?_ (Nat.le_of_ble_eq_true rfl) (Nat.le_of_ble_eq_true rfl) dJ2_isEmpty_12
    exact ⟨by simp only [he], rfl⟩
  · refine Mt.of (by decide) (Nat.le_of_ble_eq_true rfl) (fun X hX hR hin => ?_)
    refine g_lv1 (lv1 := [(0, .ref a)]) rfl ?_
    refine g_fl (cs1 := [[(a, ob 15 [.int m0, .ref arr, .int (nI as.length)])]]) rfl ?_
    refine g_aload_n hX (pc := 0) dJ2_isEmpty_0 0 rfl ?_
    refine g_get hX (pc := 1) fcJ2 0 rfl 2 (by decide) q143 rfl (v := .int (nI as.length)) rfl dJ2_isEmpty_1 ?_
    refine g_val (v := if (nI as.length) = 0 then 1 else 0) (pcJ := 12) (st1 := []) (fun hj1 => ?_) ?_
    · refine g_if_ne hX (pc := 4) (tgt := 11) dJ2_isEmpty_4 rfl (fun c2 => ?_) (fun c2 => ?_)
      · refine g_iconst hX (pc := 11) (v := 0) dJ2_isEmpty_11 (by decide) ?_
        exact hj1 _ (by rw [if_neg c2])
      · refine g_iconst hX (pc := 7) (v := 1) dJ2_isEmpty_7 (by decide) ?_
        refine g_goto hX (pc := 8) (tgt := 12) dJ2_isEmpty_8 rfl ?_
        exact hj1 _ (by rw [if_pos c2])
    refine g_pk [0] rfl ?_
    refine g_fl (cs1 := [[(a, ob 15 [.int m0, .ref arr, .int (nI as.length)])]]) rfl ?_
    refine g_zret hX (pc := 12) hR (nz10 _) ?_ (Nat.le_of_ble_eq_true rfl) (Nat.le_of_ble_eq_true rfl) dJ2_isEmpty_12
    exact ⟨by simp only [he], rfl⟩

set_option maxHeartbeats 4000000 in
theorem mt_ALc_elementData (E : EE) (l : Launch) (a : Nat) (m0 : Int32) (arr : Nat) (n : Int32) (cap : Nat) (f : Nat → Option Nat) (k : Nat) (y : Nat) (hk : (k < cap)) (hc : (cap ≤ 100000)) (hy : (f k = some y)) : Mt E l yJ2_elementData cJ2_elementData 2 (some (.object "java/lang/Object")) 1 0 0 1 [.ref a, .int (nI k)] [[(a, ob 15 [.int m0, .ref arr, .int n])], [(arr, qA (aC E 2) cap f)]] (fun (v_ : Option Value) (cs_ : List va_W) => v_ = some (.ref y) ∧ cs_ = [[(a, ob 15 [.int m0, .ref arr, .int n])], [(arr, qA (aC E 2) cap f)]]) := by
  refine Mt.of (by decide) (Nat.le_of_ble_eq_true rfl) (fun X hX hR hin => ?_)
  refine g_lv1 (lv1 := [(0, .ref a), (1, .int (nI k))]) rfl ?_
  refine g_aload_n hX (pc := 0) dJ2_elementData_0 0 rfl ?_
  refine g_get hX (pc := 1) fcJ2 0 rfl 1 (by decide) q140 rfl (v := .ref arr) rfl dJ2_elementData_1 ?_
  refine g_iload_n hX (pc := 4) dJ2_elementData_4 1 rfl ?_
  refine g_aald hX (pc := 5) (t0 := 2) rfl (sp_mem (i := 1) rfl) (y := y) (vp_in_nI hk (by omega)) (by rw [nI_clamp (by omega)]; exact hy) dJ2_elementData_5 ?_
  refine g_aret hX (pc := 6) hR (by first | exact Or.inl ⟨_, rfl⟩ | exact Or.inr ⟨_, rfl⟩) ?_ (Nat.le_of_ble_eq_true rfl) (Nat.le_of_ble_eq_true rfl) dJ2_elementData_6
  exact ⟨rfl, rfl⟩

set_option maxHeartbeats 4000000 in
theorem mt_AL_get (E : EE) (l : Launch) (a : Nat) (as : List Nat) (w : va_W) (k : Nat) (y : Nat) (hw : AL E a as w) (hk : (as[k]? = some y)) : Mt E l yJ2_get cJ2_get 2 (some (.object "java/lang/Object")) 3 0 0 44 [.ref a, .int (nI k)] [w] (fun (v_ : Option Value) (cs_ : List va_W) => v_ = some (.ref y) ∧ cs_ = [w]) := by
  obtain ⟨m0, arr, cap, f, h1, h2, h3, hc⟩ := hw
  have hkl : k < as.length := (List.getElem?_eq_some_iff.mp hk).1
  rcases hc with ⟨h4, rfl⟩ | ⟨rfl, harr, rfl⟩
  · refine Mt.of (by decide) (Nat.le_of_ble_eq_true rfl) (fun X hX hR hin => ?_)
    refine g_lv1 (lv1 := [(0, .ref a), (1, .int (nI k))]) rfl ?_
    refine g_fl (cs1 := [[(a, ob 15 [.int m0, .ref arr, .int (nI as.length)])], [(arr, qA (aC E 2) cap f)]]) rfl ?_
    refine g_iload_n hX (pc := 0) dJ2_get_0 1 rfl ?_
    refine g_aload_n hX (pc := 1) dJ2_get_1 0 rfl ?_
    refine g_get hX (pc := 2) fcJ2 0 rfl 2 (by decide) q143 rfl (v := .int (nI as.length)) rfl dJ2_get_2 ?_
    refine g_callS hX (pc := 5) kJ15_checkIndex (mt_Obj_checkIndex E l (nI k) (nI as.length) (nI_pos (by omega)) (nI_lt hkl (by omega))) q211 [] rfl rfl rfl (Nat.le_of_ble_eq_true rfl) (Nat.le_of_ble_eq_true rfl) (Nat.le_of_ble_eq_true rfl) (Nat.le_of_ble_eq_true rfl) (Nat.le_of_ble_eq_true rfl) dJ2_get_5 (fun v w1 hp => ?_)
    obtain ⟨rfl, rfl⟩ := hp
    refine g_nrm (cs1 := [[(a, ob 15 [.int m0, .ref arr, .int (nI as.length)])], [(arr, qA (aC E 2) cap f)]]) (st1 := [.int (nI k)]) rfl rfl ?_
    refine g_pop hX (pc := 8) dJ2_get_8 rfl ?_
    refine g_aload_n hX (pc := 9) dJ2_get_9 0 rfl ?_
    refine g_iload_n hX (pc := 10) dJ2_get_10 1 rfl ?_
    refine g_callV hX (pc := 11) kJ2_elementData (mt_ALc_elementData E l a m0 arr (nI as.length) cap f k y (by omega) (h2) (by rw [h3 k hkl]; exact hk)) q217 fcJ2 (sp_mem (i := 0) rfl) [0, 0] rfl rfl rfl (Nat.le_of_ble_eq_true rfl) (Nat.le_of_ble_eq_true rfl) (Nat.le_of_ble_eq_true rfl) (Nat.le_of_ble_eq_true rfl) (Nat.le_of_ble_eq_true rfl) dJ2_get_11 (fun v w1 hp => ?_)
    obtain ⟨rfl, rfl⟩ := hp
    refine g_nrm (cs1 := [[(a, ob 15 [.int m0, .ref arr, .int (nI as.length)])], [(arr, qA (aC E 2) cap f)]]) (st1 := [.ref y]) rfl rfl ?_
    refine g_pk [0, 0] rfl ?_
    refine g_fl (cs1 := [[(a, ob 15 [.int m0, .ref arr, .int (nI as.length)]), (arr, qA (aC E 2) cap f)]]) rfl ?_
    refine g_aret hX (pc := 14) hR (by first | exact Or.inl ⟨_, rfl⟩ | exact Or.inr ⟨_, rfl⟩) ?_ (Nat.le_of_ble_eq_true rfl) (Nat.le_of_ble_eq_true rfl) dJ2_get_14
    exact ⟨rfl, rfl⟩
  · exact absurd h1 (by omega)

set_option maxHeartbeats 4000000 in
theorem mt_copyOf3 (E : EE) (l : Launch) (arr : Nat) (n : Nat) (f : Nat → Option Nat) (r : Nat) (el : va_W) (hn : (n ≤ 100000)) (hr : (r ≤ 200000)) (hok : (∀ i, i < min n r → ∀ y, f i = some y → okE E el y)) : Mt E l yJ9_copyOf_3 cJ9_copyOf_3 4 (some (.array (.object "java/lang/Object"))) 1 1 r 40 [.ref arr, .int (nI r), .ref (aX E 4)] [[(arr, qA (aC E 2) n f)], el] (fun (v_ : Option Value) (cs_ : List va_W) => ∃ (q : Nat), v_ = some (.ref q) ∧ cs_ = [[(q, qA (aC E 2) r (va_cpy f (fun _ => none) 0 0 (min n r)))], [(arr, qA (aC E 2) n f)], el]) := by
  refine Mt.of (by decide) (Nat.le_of_ble_eq_true rfl) (fun X hX hR hin => ?_)
  refine g_lv1 (lv1 := [(0, .ref arr), (1, .int (nI r)), (2, .ref (aX E 4))]) rfl ?_
  refine g_aload_n hX (pc := 0) dJ9_copyOf_3_0 2 rfl ?_
  refine g_ldcM hX (pc := 1) (mi := aX E 4) q676 (cx_M4 hX) dJ9_copyOf_3_1 ?_
  refine g_acmp_ner hX (pc := 3) (tgt := 13) dJ9_copyOf_3_3 rfl (fun c1 => ?_) (fun c1 => ?_)
  · exact absurd rfl c1
  · refine g_iload_n hX (pc := 6) dJ9_copyOf_3_6 1 rfl ?_
    refine g_newq hX (pc := 7) (t0 := 2) rfl q678 hX.2.2.2.2.2.2.2.2.2.1.1.2.1 r (nI_pos (by omega)) (nI_clamp (by omega)) (by omega) (by omega) (by omega) dJ9_copyOf_3_7 (fun q2 => ?_)
    refine g_goto hX (pc := 10) (tgt := 24) dJ9_copyOf_3_10 rfl ?_
    refine g_astore_n hX (pc := 24) (lv1 := [(3, .ref q2), (0, .ref arr), (1, .int (nI r)), (2, .ref (aX E 4))]) dJ9_copyOf_3_24 (by decide) rfl ?_
    refine g_aload_n hX (pc := 25) dJ9_copyOf_3_25 1 rfl ?_
    refine g_iconst hX (pc := 26) (v := 0) dJ9_copyOf_3_26 (by decide) ?_
    refine g_aload_n hX (pc := 27) dJ9_copyOf_3_27 0 rfl ?_
    refine g_iconst hX (pc := 28) (v := 0) dJ9_copyOf_3_28 (by decide) ?_
    refine g_aload_n hX (pc := 29) dJ9_copyOf_3_29 1 rfl ?_
    refine g_alen hX (pc := 30) (sp_mem (i := 1) rfl) 2 rfl (v := (nI n)) rfl dJ9_copyOf_3_30 ?_
    refine g_iload_n hX (pc := 31) dJ9_copyOf_3_31 2 rfl ?_
    refine g_mmin hX (pc := 32) q421 (Nat.le_of_ble_eq_true rfl) (Nat.le_of_ble_eq_true rfl) (by omega) (by omega) q_m1min q_m2 q_m3min dJ9_copyOf_3_32 ?_
    refine g_eqi (nI (min n r)) (al_min (by omega) (by omega)) ?_
    refine g_copyq hX (pc := 35) q422 q_ac1 q_ac2 q_ac3 (sp_mem (i := 1) rfl) 0 (cs1 := [[(q2, qA (aC E 2) r (va_cpy f (fun _ => none) 0 0 (min n r)))], [(arr, qA (aC E 2) n f)], el]) rfl (by decide) (by decide) (nI_pos (by omega)) (by rw [sb_cl0, nI_clamp (by omega)]; omega) (by rw [sb_cl0, nI_clamp (by omega)]; omega) (fun H locs hP hS i hi y hy => any_ok hX hP hS (el := el) (fun q hq => sp_in 2 rfl hq) (hok i (by rw [nI_clamp (by omega)] at hi; exact hi) y (by rw [sb_cl0, Nat.zero_add] at hy; exact hy))) (g1 := (va_cpy f (fun _ => none) 0 0 (min n r))) (al_cpy0 (by omega)) rfl (Nat.le_of_ble_eq_true rfl) (Nat.le_of_ble_eq_true rfl) dJ9_copyOf_3_35 ?_
    refine g_aload_n hX (pc := 38) dJ9_copyOf_3_38 0 rfl ?_
    refine g_aret hX (pc := 39) hR (by first | exact Or.inl ⟨_, rfl⟩ | exact Or.inr ⟨_, rfl⟩) ?_ (by omega) (by omega) dJ9_copyOf_3_39
    exact ⟨_, rfl, rfl⟩

set_option maxHeartbeats 4000000 in
theorem mt_copyOf3s (E : EE) (l : Launch) (arr : Nat) (r : Nat) (harr : (arr = aX E 0 ∨ arr = aX E 1)) (hr : (r ≤ 200000)) : Mt E l yJ9_copyOf_3 cJ9_copyOf_3 4 (some (.array (.object "java/lang/Object"))) 1 1 r 40 [.ref arr, .int (nI r), .ref (aX E 4)] [] (fun (v_ : Option Value) (cs_ : List va_W) => ∃ (q : Nat), v_ = some (.ref q) ∧ cs_ = [[(q, qA (aC E 2) r (va_cpy (fun _ => none) (fun _ => none) 0 0 0))]]) := by
  refine Mt.of (by decide) (Nat.le_of_ble_eq_true rfl) (fun X hX hR hin => ?_)
  refine g_lv1 (lv1 := [(0, .ref arr), (1, .int (nI r)), (2, .ref (aX E 4))]) rfl ?_
  refine g_aload_n hX (pc := 0) dJ9_copyOf_3_0 2 rfl ?_
  refine g_ldcM hX (pc := 1) (mi := aX E 4) q676 (cx_M4 hX) dJ9_copyOf_3_1 ?_
  refine g_acmp_ner hX (pc := 3) (tgt := 13) dJ9_copyOf_3_3 rfl (fun c1 => ?_) (fun c1 => ?_)
  · exact absurd rfl c1
  · refine g_iload_n hX (pc := 6) dJ9_copyOf_3_6 1 rfl ?_
    refine g_newq hX (pc := 7) (t0 := 2) rfl q678 hX.2.2.2.2.2.2.2.2.2.1.1.2.1 r (nI_pos (by omega)) (nI_clamp (by omega)) (by omega) (by omega) (by omega) dJ9_copyOf_3_7 (fun q2 => ?_)
    refine g_goto hX (pc := 10) (tgt := 24) dJ9_copyOf_3_10 rfl ?_
    refine g_astore_n hX (pc := 24) (lv1 := [(3, .ref q2), (0, .ref arr), (1, .int (nI r)), (2, .ref (aX E 4))]) dJ9_copyOf_3_24 (by decide) rfl ?_
    refine g_aload_n hX (pc := 25) dJ9_copyOf_3_25 1 rfl ?_
    refine g_iconst hX (pc := 26) (v := 0) dJ9_copyOf_3_26 (by decide) ?_
    refine g_aload_n hX (pc := 27) dJ9_copyOf_3_27 0 rfl ?_
    refine g_iconst hX (pc := 28) (v := 0) dJ9_copyOf_3_28 (by decide) ?_
    refine g_aload_n hX (pc := 29) dJ9_copyOf_3_29 1 rfl ?_
    refine g_tlen hX (pc := 30) (cx_T0 hX harr) (v := 0) rfl dJ9_copyOf_3_30 ?_
    refine g_iload_n hX (pc := 31) dJ9_copyOf_3_31 2 rfl ?_
    refine g_mmin hX (pc := 32) q421 (Nat.le_of_ble_eq_true rfl) (Nat.le_of_ble_eq_true rfl) (by omega) (by omega) q_m1min q_m2 q_m3min dJ9_copyOf_3_32 ?_
    refine g_eqi (nI 0) (by rw [show (0 : Int32) = nI 0 from rfl, al_min (by omega) (by omega), Nat.zero_min]) ?_
    refine g_copy0 hX (pc := 35) q422 q_ac1 q_ac2 q_ac3 (cx_T0 hX harr) 0 (cs1 := [[(q2, qA (aC E 2) r (va_cpy (fun _ => none) (fun _ => none) 0 0 0))]]) rfl (by decide) (by decide) (nI_pos (by omega)) (by decide) (by rw [sb_cl0, nI_clamp (by omega)]; omega) (g1 := (va_cpy (fun _ => none) (fun _ => none) 0 0 0)) (al_cpy0 (by omega)) rfl (Nat.le_of_ble_eq_true rfl) (Nat.le_of_ble_eq_true rfl) dJ9_copyOf_3_35 ?_
    refine g_aload_n hX (pc := 38) dJ9_copyOf_3_38 0 rfl ?_
    refine g_aret hX (pc := 39) hR (by first | exact Or.inl ⟨_, rfl⟩ | exact Or.inr ⟨_, rfl⟩) ?_ (by omega) (by omega) dJ9_copyOf_3_39
    exact ⟨_, rfl, rfl⟩

set_option maxHeartbeats 4000000 in
theorem mt_copyOf (E : EE) (l : Launch) (arr : Nat) (n : Nat) (f : Nat → Option Nat) (r : Nat) (el : va_W) (hn : (n ≤ 100000)) (hr : (r ≤ 200000)) (hok : (∀ i, i < min n r → ∀ y, f i = some y → okE E el y)) : Mt E l yJ9_copyOf_2 cJ9_copyOf_2 2 (some (.array (.object "java/lang/Object"))) 2 1 r 63 [.ref arr, .int (nI r)] [[(arr, qA (aC E 2) n f)], el] (fun (v_ : Option Value) (cs_ : List va_W) => ∃ (q : Nat), v_ = some (.ref q) ∧ cs_ = [[(q, qA (aC E 2) r (va_cpy f (fun _ => none) 0 0 (min n r)))], [(arr, qA (aC E 2) n f)], el]) := by
  refine Mt.of (by decide) (Nat.le_of_ble_eq_true rfl) (fun X hX hR hin => ?_)
  refine g_lv1 (lv1 := [(0, .ref arr), (1, .int (nI r))]) rfl ?_
  refine g_aload_n hX (pc := 0) dJ9_copyOf_2_0 0 rfl ?_
  refine g_iload_n hX (pc := 1) dJ9_copyOf_2_1 1 rfl ?_
  refine g_aload_n hX (pc := 2) dJ9_copyOf_2_2 0 rfl ?_
  refine g_getC hX (pc := 3) (mi := aX E 4) q643 q2443 q644 q672 (cx_M4 hX) (fun H locs hP hS => qa_class hX hP (sp_mem (i := 0) rfl)) (Nat.le_of_ble_eq_true rfl) (Nat.le_of_ble_eq_true rfl) dJ9_copyOf_2_3 ?_
  refine g_callS hX (pc := 6) kJ9_copyOf_3 (mt_copyOf3 E l arr n f r el (hn) (hr) (hok)) q673 [0, 0] rfl rfl rfl (Nat.le_of_ble_eq_true rfl) (Nat.le_of_ble_eq_true rfl) (Nat.le_of_ble_eq_true rfl) (by omega) (by omega) dJ9_copyOf_2_6 (fun v w1 hp => ?_)
  obtain ⟨q1, rfl, rfl⟩ := hp
  refine g_nrm (cs1 := [[(q1, qA (aC E 2) r (va_cpy f (fun _ => none) 0 0 (min n r)))], [(arr, qA (aC E 2) n f)], el]) (st1 := [.ref q1]) rfl rfl ?_
  refine g_aret hX (pc := 9) hR (by first | exact Or.inl ⟨_, rfl⟩ | exact Or.inr ⟨_, rfl⟩) ?_ (by omega) (by omega) dJ9_copyOf_2_9
  exact ⟨_, rfl, rfl⟩

set_option maxHeartbeats 4000000 in
theorem mt_copyOfs (E : EE) (l : Launch) (arr : Nat) (r : Nat) (harr : (arr = aX E 0 ∨ arr = aX E 1)) (hr : (r ≤ 200000)) : Mt E l yJ9_copyOf_2 cJ9_copyOf_2 2 (some (.array (.object "java/lang/Object"))) 2 1 r 63 [.ref arr, .int (nI r)] [] (fun (v_ : Option Value) (cs_ : List va_W) => ∃ (q : Nat), v_ = some (.ref q) ∧ cs_ = [[(q, qA (aC E 2) r (va_cpy (fun _ => none) (fun _ => none) 0 0 0))]]) := by
  refine Mt.of (by decide) (Nat.le_of_ble_eq_true rfl) (fun X hX hR hin => ?_)
  refine g_lv1 (lv1 := [(0, .ref arr), (1, .int (nI r))]) rfl ?_
  refine g_aload_n hX (pc := 0) dJ9_copyOf_2_0 0 rfl ?_
  refine g_iload_n hX (pc := 1) dJ9_copyOf_2_1 1 rfl ?_
  refine g_aload_n hX (pc := 2) dJ9_copyOf_2_2 0 rfl ?_
  refine g_getC hX (pc := 3) (mi := aX E 4) q643 q2443 q644 q672 (cx_M4 hX) (fun H locs hP hS => cx_O (cx_O0 hX harr) hS) (Nat.le_of_ble_eq_true rfl) (Nat.le_of_ble_eq_true rfl) dJ9_copyOf_2_3 ?_
  refine g_callS hX (pc := 6) kJ9_copyOf_3 (mt_copyOf3s E l arr r (harr) (hr)) q673 [] rfl rfl rfl (Nat.le_of_ble_eq_true rfl) (Nat.le_of_ble_eq_true rfl) (Nat.le_of_ble_eq_true rfl) (by omega) (by omega) dJ9_copyOf_2_6 (fun v w1 hp => ?_)
  obtain ⟨q1, rfl, rfl⟩ := hp
  refine g_nrm (cs1 := [[(q1, qA (aC E 2) r (va_cpy (fun _ => none) (fun _ => none) 0 0 0))]]) (st1 := [.ref q1]) rfl rfl ?_
  refine g_aret hX (pc := 9) hR (by first | exact Or.inl ⟨_, rfl⟩ | exact Or.inr ⟨_, rfl⟩) ?_ (by omega) (by omega) dJ9_copyOf_2_9
  exact ⟨_, rfl, rfl⟩

set_option maxHeartbeats 4000000 in
theorem mt_newLength (E : EE) (l : Launch) (o : Int32) (m : Int32) (p : Int32) (r : Nat) (hr : (o + (if m < p then p else m) = nI r)) (h0 : (0 < r)) (h1 : (r ≤ 200000)) : Mt E l yJ7_newLength cJ7_newLength 4 (some .int) 1 0 0 21 [.int o, .int m, .int p] [] (fun (v_ : Option Value) (cs_ : List va_W) => v_ = some (.int (nI r)) ∧ cs_ = []) := by
  refine Mt.of (by decide) (Nat.le_of_ble_eq_true rfl) (fun X hX hR hin => ?_)
  refine g_lv1 (lv1 := [(0, .int o), (1, .int m), (2, .int p)]) rfl ?_
  refine g_iload_n hX (pc := 0) dJ7_newLength_0 0 rfl ?_
  refine g_iload_n hX (pc := 1) dJ7_newLength_1 1 rfl ?_
  refine g_iload_n hX (pc := 2) dJ7_newLength_2 2 rfl ?_
  refine g_mmax hX (pc := 3) q405 (Nat.le_of_ble_eq_true rfl) (Nat.le_of_ble_eq_true rfl) (Nat.le_of_ble_eq_true rfl) (Nat.le_of_ble_eq_true rfl) q_m1max q_m2 q_m3max dJ7_newLength_3 ?_
  refine g_iadd hX (pc := 6) dJ7_newLength_6 ?_
  refine g_eqi (nI r) (hr) ?_
  refine g_istore_n hX (pc := 7) (lv1 := [(3, .int (nI r)), (0, .int o), (1, .int m), (2, .int p)]) dJ7_newLength_7 (by decide) rfl ?_
  refine g_iconst hX (pc := 8) (v := 0) dJ7_newLength_8 (by decide) ?_
  refine g_iload_n hX (pc := 9) dJ7_newLength_9 0 rfl ?_
  refine g_icmp_ge hX (pc := 10) (tgt := 21) dJ7_newLength_10 rfl (fun c1 => ?_) (fun c1 => ?_)
  · exact absurd c1 (nI_nle h0 (by omega))
  · refine g_iload_n hX (pc := 13) dJ7_newLength_13 0 rfl ?_
    refine g_ldc hX (pc := 14) (v := 2147483639) q406 dJ7_newLength_14 ?_
    refine g_icmp_gt hX (pc := 16) (tgt := 21) dJ7_newLength_16 rfl (fun c2 => ?_) (fun c2 => ?_)
    · exact absurd c2 (show ¬ nI 2147483639 < nI r from nI_nlt (by omega) (by decide))
    · refine g_iload_n hX (pc := 19) dJ7_newLength_19 0 rfl ?_
      refine g_iret hX (pc := 20) hR ?_ (Nat.le_of_ble_eq_true rfl) (Nat.le_of_ble_eq_true rfl) dJ7_newLength_20
      exact ⟨rfl, rfl⟩

set_option maxHeartbeats 4000000 in
theorem mt_growO_i (E : EE) (l : Launch) (a : Nat) (m0 : Int32) (arr : Nat) (n : Nat) (f : Nat → Option Nat) (el : va_W) (hn1 : (1 ≤ n)) (hn : (n ≤ 60000)) (hok : (∀ i, i < n → ∀ y, f i = some y → okE E el y)) : Mt E l yJ2_grow_2 cJ2_grow_2 4 (some (.array (.object "java/lang/Object"))) 3 1 (n + max 1 (n / 2)) 84 [.ref a, .int (nI (n + 1))] [[(a, ob 15 [.int m0, .ref arr, .int (nI n)])], [(arr, qA (aC E 2) n f)], el] (fun (v_ : Option Value) (cs_ : List va_W) => ∃ (q : Nat), v_ = some (.ref q) ∧ cs_ = [[(a, ob 15 [.int m0, .ref q, .int (nI n)])], [(q, qA (aC E 2) (n + max 1 (n / 2)) (va_cpy f (fun _ => none) 0 0 n))], el]) := by
  refine Mt.of (by decide) (Nat.le_of_ble_eq_true rfl) (fun X hX hR hin => ?_)
  refine g_lv1 (lv1 := [(0, .ref a), (1, .int (nI (n + 1)))]) rfl ?_
  refine g_aload_n hX (pc := 0) dJ2_grow_2_0 0 rfl ?_
  refine g_get hX (pc := 1) fcJ2 0 rfl 1 (by decide) q140 rfl (v := .ref arr) rfl dJ2_grow_2_1 ?_
  refine g_alen hX (pc := 4) (sp_mem (i := 1) rfl) 2 rfl (v := (nI n)) rfl dJ2_grow_2_4 ?_
  refine g_istore_n hX (pc := 5) (lv1 := [(2, .int (nI n)), (0, .ref a), (1, .int (nI (n + 1)))]) dJ2_grow_2_5 (by decide) rfl ?_
  refine g_iload_n hX (pc := 6) dJ2_grow_2_6 0 rfl ?_
  refine g_if_gt hX (pc := 7) (tgt := 20) dJ2_grow_2_7 rfl (fun c1 => ?_) (fun c1 => ?_)
  · refine g_iload_n hX (pc := 20) dJ2_grow_2_20 0 rfl ?_
    refine g_iload_n hX (pc := 21) dJ2_grow_2_21 2 rfl ?_
    refine g_iload_n hX (pc := 22) dJ2_grow_2_22 0 rfl ?_
    refine g_isub hX (pc := 23) dJ2_grow_2_23 ?_
    refine g_iload_n hX (pc := 24) dJ2_grow_2_24 0 rfl ?_
    refine g_iconst hX (pc := 25) (v := 1) dJ2_grow_2_25 (by decide) ?_
    refine g_ishr hX (pc := 26) dJ2_grow_2_26 ?_
    refine g_callS hX (pc := 27) kJ7_newLength (mt_newLength E l (nI n) ((nI (n + 1)) - (nI n)) ((nI n) >>> (1 &&& 31)) (n + max 1 (n / 2)) (al_grow (by omega)) (by omega) (by omega)) q639 [] rfl rfl rfl (Nat.le_of_ble_eq_true rfl) (Nat.le_of_ble_eq_true rfl) (Nat.le_of_ble_eq_true rfl) (by omega) (by omega) dJ2_grow_2_27 (fun v w1 hp => ?_)
    obtain ⟨rfl, rfl⟩ := hp
    refine g_nrm (cs1 := [[(a, ob 15 [.int m0, .ref arr, .int (nI n)])], [(arr, qA (aC E 2) n f)], el]) (st1 := [.int (nI (n + max 1 (n / 2)))]) rfl rfl ?_
    refine g_istore_n hX (pc := 30) (lv1 := [(3, .int (nI (n + max 1 (n / 2)))), (2, .int (nI n)), (0, .ref a), (1, .int (nI (n + 1)))]) dJ2_grow_2_30 (by decide) rfl ?_
    refine g_aload_n hX (pc := 31) dJ2_grow_2_31 2 rfl ?_
    refine g_aload_n hX (pc := 32) dJ2_grow_2_32 2 rfl ?_
    refine g_get hX (pc := 33) fcJ2 0 rfl 1 (by decide) q140 rfl (v := .ref arr) rfl dJ2_grow_2_33 ?_
    refine g_iload_n hX (pc := 36) dJ2_grow_2_36 0 rfl ?_
    refine g_callS hX (pc := 37) kJ9_copyOf_2 (mt_copyOf E l arr n f (n + max 1 (n / 2)) el (by omega) (by omega) (fun i hi y hy => hok i (by omega) y hy)) q640 [1, 1] rfl rfl rfl (Nat.le_of_ble_eq_true rfl) (Nat.le_of_ble_eq_true rfl) (Nat.le_of_ble_eq_true rfl) (by omega) (by omega) dJ2_grow_2_37 (fun v w1 hp => ?_)
    obtain ⟨q2, rfl, rfl⟩ := hp
    refine g_nrm (cs1 := [[(q2, qA (aC E 2) (n + max 1 (n / 2)) (va_cpy f (fun _ => none) 0 0 (min n (n + max 1 (n / 2)))))], [(arr, qA (aC E 2) n f)], el, [(a, ob 15 [.int m0, .ref arr, .int (nI n)])]]) (st1 := [.ref q2, .ref a]) rfl rfl ?_
    refine g_cs (cs1 := [[(q2, qA (aC E 2) (n + max 1 (n / 2)) (va_cpy f (fun _ => none) 0 0 n))], [(arr, qA (aC E 2) n f)], el, [(a, ob 15 [.int m0, .ref arr, .int (nI n)])]]) (by rw [Nat.min_eq_left (by omega)]) ?_
    refine g_drop (cs1 := [[(q2, qA (aC E 2) (n + max 1 (n / 2)) (va_cpy f (fun _ => none) 0 0 n))], el, [(a, ob 15 [.int m0, .ref arr, .int (nI n)])]]) [1] rfl ?_
    refine g_dup_x1 hX (pc := 40) dJ2_grow_2_40 rfl rfl ?_
    refine g_put hX (pc := 41) fcJ2 2 (fs1 := [.int m0, .ref q2, .int (nI n)]) (cs1 := [[(q2, qA (aC E 2) (n + max 1 (n / 2)) (va_cpy f (fun _ => none) 0 0 n))], el, [(a, ob 15 [.int m0, .ref q2, .int (nI n)])]]) rfl 1 (by decide) q140 rfl rfl rfl rfl (Nat.le_of_ble_eq_true rfl) rfl rfl dJ2_grow_2_41 ?_
    refine g_pk [2, 0, 0] rfl ?_
    refine g_cs (cs1 := [[(a, ob 15 [.int m0, .ref q2, .int (nI n)])], [(q2, qA (aC E 2) (n + max 1 (n / 2)) (va_cpy f (fun _ => none) 0 0 n))], el]) rfl ?_
    refine g_aret hX (pc := 44) hR (by first | exact Or.inl ⟨_, rfl⟩ | exact Or.inr ⟨_, rfl⟩) ?_ (by omega) (by omega) dJ2_grow_2_44
    exact ⟨_, rfl, rfl⟩
  · exact absurd (al_pos hn1 (by omega)) c1

set_option maxHeartbeats 4000000 in
theorem mt_growO (E : EE) (l : Launch) (a : Nat) (m0 : Int32) (arr : Nat) (n : Nat) (f : Nat → Option Nat) (el : va_W) (hn1 : (1 ≤ n)) (hn : (n ≤ 60000)) (hok : (∀ i, i < n → ∀ y, f i = some y → okE E el y)) : Mt E l yJ2_grow cJ2_grow 1 (some (.array (.object "java/lang/Object"))) 4 1 (n + max 1 (n / 2)) 107 [.ref a] [[(a, ob 15 [.int m0, .ref arr, .int (nI n)])], [(arr, qA (aC E 2) n f)], el] (fun (v_ : Option Value) (cs_ : List va_W) => ∃ (q : Nat), v_ = some (.ref q) ∧ cs_ = [[(a, ob 15 [.int m0, .ref q, .int (nI n)])], [(q, qA (aC E 2) (n + max 1 (n / 2)) (va_cpy f (fun _ => none) 0 0 n))], el]) := by
  refine Mt.of (by decide) (Nat.le_of_ble_eq_true rfl) (fun X hX hR hin => ?_)
  refine g_lv1 (lv1 := [(0, .ref a)]) rfl ?_
  refine g_aload_n hX (pc := 0) dJ2_grow_0 0 rfl ?_
  refine g_aload_n hX (pc := 1) dJ2_grow_1 0 rfl ?_
  refine g_get hX (pc := 2) fcJ2 0 rfl 2 (by decide) q143 rfl (v := .int (nI n)) rfl dJ2_grow_2 ?_
  refine g_iconst hX (pc := 5) (v := 1) dJ2_grow_5 (by decide) ?_
  refine g_iadd hX (pc := 6) dJ2_grow_6 ?_
  refine g_eqi (nI (n + 1)) (nI_1 n) ?_
  refine g_callV hX (pc := 7) kJ2_grow_2 (mt_growO_i E l a m0 arr n f el (hn1) (hn) (hok)) q635 fcJ2 (sp_mem (i := 0) rfl) [0, 0, 0] rfl rfl rfl (Nat.le_of_ble_eq_true rfl) (Nat.le_of_ble_eq_true rfl) (Nat.le_of_ble_eq_true rfl) (by omega) (by omega) dJ2_grow_7 (fun v w1 hp => ?_)
  obtain ⟨q1, rfl, rfl⟩ := hp
  refine g_nrm (cs1 := [[(a, ob 15 [.int m0, .ref q1, .int (nI n)])], [(q1, qA (aC E 2) (n + max 1 (n / 2)) (va_cpy f (fun _ => none) 0 0 n))], el]) (st1 := [.ref q1]) rfl rfl ?_
  refine g_aret hX (pc := 10) hR (by first | exact Or.inl ⟨_, rfl⟩ | exact Or.inr ⟨_, rfl⟩) ?_ (by omega) (by omega) dJ2_grow_10
  exact ⟨_, rfl, rfl⟩

set_option maxHeartbeats 4000000 in
theorem mt_growD_i (E : EE) (l : Launch) (a : Nat) (m0 : Int32) (arr : Nat) (harr0 : (arr = aX E 0)) : Mt E l yJ2_grow_2 cJ2_grow_2 4 (some (.array (.object "java/lang/Object"))) 1 1 10 21 [.ref a, .int 1] [[(a, ob 15 [.int m0, .ref arr, .int 0])]] (fun (v_ : Option Value) (cs_ : List va_W) => ∃ (q : Nat), v_ = some (.ref q) ∧ cs_ = [[(a, ob 15 [.int m0, .ref q, .int 0])], [(q, qA (aC E 2) 10 (fun _ => none))]]) := by
  have harr : arr = aX E 0 ∨ arr = aX E 1 := Or.inl harr0
  refine Mt.of (by decide) (Nat.le_of_ble_eq_true rfl) (fun X hX hR hin => ?_)
  refine g_lv1 (lv1 := [(0, .ref a), (1, .int 1)]) rfl ?_
  refine g_aload_n hX (pc := 0) dJ2_grow_2_0 0 rfl ?_
  refine g_get hX (pc := 1) fcJ2 0 rfl 1 (by decide) q140 rfl (v := .ref arr) rfl dJ2_grow_2_1 ?_
  refine g_tlen hX (pc := 4) (cx_T0 hX harr) (v := 0) rfl dJ2_grow_2_4 ?_
  refine g_istore_n hX (pc := 5) (lv1 := [(2, .int 0), (0, .ref a), (1, .int 1)]) dJ2_grow_2_5 (by decide) rfl ?_
  refine g_iload_n hX (pc := 6) dJ2_grow_2_6 0 rfl ?_
  refine g_if_gt hX (pc := 7) (tgt := 20) dJ2_grow_2_7 rfl (fun c1 => ?_) (fun c1 => ?_)
  · exact absurd c1 (by decide)
  · refine g_aload_n hX (pc := 10) dJ2_grow_2_10 1 rfl ?_
    refine g_get hX (pc := 11) fcJ2 0 rfl 1 (by decide) q140 rfl (v := .ref arr) rfl dJ2_grow_2_11 ?_
    refine g_gets hX (pc := 14) (v := .ref (aX E 0)) (cx_gs hX).2.2.1 q138 rfl dJ2_grow_2_14 ?_
    refine g_acmp_eqr hX (pc := 17) (tgt := 45) dJ2_grow_2_17 rfl (fun c2 => ?_) (fun c2 => ?_)
    · refine g_aload_n hX (pc := 45) dJ2_grow_2_45 1 rfl ?_
      refine g_bipush hX (pc := 46) (v := 10) dJ2_grow_2_46 (by decide) ?_
      refine g_iload_n hX (pc := 48) dJ2_grow_2_48 2 rfl ?_
      refine g_mmax hX (pc := 49) q679 (Nat.le_of_ble_eq_true rfl) (Nat.le_of_ble_eq_true rfl) (Nat.le_of_ble_eq_true rfl) (Nat.le_of_ble_eq_true rfl) q_m1max q_m2 q_m3max dJ2_grow_2_49 ?_
      refine g_eqi 10 (by decide) ?_
      refine g_newq hX (pc := 52) (t0 := 2) rfl q680 hX.2.2.2.2.2.2.2.2.2.1.1.2.1 10 (by decide) (by decide) (Nat.le_of_ble_eq_true rfl) (Nat.le_of_ble_eq_true rfl) (Nat.le_of_ble_eq_true rfl) dJ2_grow_2_52 (fun q3 => ?_)
      refine g_dup_x1 hX (pc := 55) dJ2_grow_2_55 rfl rfl ?_
      refine g_put hX (pc := 56) fcJ2 1 (fs1 := [.int m0, .ref q3, .int 0]) (cs1 := [[(q3, qA (aC E 2) 10 (fun _ => none))], [(a, ob 15 [.int m0, .ref q3, .int 0])]]) rfl 1 (by decide) q140 rfl rfl rfl rfl (Nat.le_of_ble_eq_true rfl) rfl rfl dJ2_grow_2_56 ?_
      refine g_pk [1, 0] rfl ?_
      refine g_cs (cs1 := [[(a, ob 15 [.int m0, .ref q3, .int 0])], [(q3, qA (aC E 2) 10 (fun _ => none))]]) rfl ?_
      refine g_aret hX (pc := 59) hR (by first | exact Or.inl ⟨_, rfl⟩ | exact Or.inr ⟨_, rfl⟩) ?_ (Nat.le_of_ble_eq_true rfl) (Nat.le_of_ble_eq_true rfl) dJ2_grow_2_59
      exact ⟨_, rfl, rfl⟩
    · exact absurd harr0 c2

set_option maxHeartbeats 4000000 in
theorem mt_growE_i (E : EE) (l : Launch) (a : Nat) (m0 : Int32) (arr : Nat) (harr1 : (arr = aX E 1)) : Mt E l yJ2_grow_2 cJ2_grow_2 4 (some (.array (.object "java/lang/Object"))) 3 1 1 84 [.ref a, .int 1] [[(a, ob 15 [.int m0, .ref arr, .int 0])]] (fun (v_ : Option Value) (cs_ : List va_W) => ∃ (q : Nat), v_ = some (.ref q) ∧ cs_ = [[(a, ob 15 [.int m0, .ref q, .int 0])], [(q, qA (aC E 2) 1 (fun _ => none))]]) := by
  have harr : arr = aX E 0 ∨ arr = aX E 1 := Or.inr harr1
  refine Mt.of (by decide) (Nat.le_of_ble_eq_true rfl) (fun X hX hR hin => ?_)
  refine g_lv1 (lv1 := [(0, .ref a), (1, .int 1)]) rfl ?_
  refine g_aload_n hX (pc := 0) dJ2_grow_2_0 0 rfl ?_
  refine g_get hX (pc := 1) fcJ2 0 rfl 1 (by decide) q140 rfl (v := .ref arr) rfl dJ2_grow_2_1 ?_
  refine g_tlen hX (pc := 4) (cx_T0 hX harr) (v := 0) rfl dJ2_grow_2_4 ?_
  refine g_istore_n hX (pc := 5) (lv1 := [(2, .int 0), (0, .ref a), (1, .int 1)]) dJ2_grow_2_5 (by decide) rfl ?_
  refine g_iload_n hX (pc := 6) dJ2_grow_2_6 0 rfl ?_
  refine g_if_gt hX (pc := 7) (tgt := 20) dJ2_grow_2_7 rfl (fun c1 => ?_) (fun c1 => ?_)
  · exact absurd c1 (by decide)
  · refine g_aload_n hX (pc := 10) dJ2_grow_2_10 1 rfl ?_
    refine g_get hX (pc := 11) fcJ2 0 rfl 1 (by decide) q140 rfl (v := .ref arr) rfl dJ2_grow_2_11 ?_
    refine g_gets hX (pc := 14) (v := .ref (aX E 0)) (cx_gs hX).2.2.1 q138 rfl dJ2_grow_2_14 ?_
    refine g_acmp_eqr hX (pc := 17) (tgt := 45) dJ2_grow_2_17 rfl (fun c2 => ?_) (fun c2 => ?_)
    · exact absurd (c2.symm.trans harr1) (cx_X01 hX)
    · refine g_iload_n hX (pc := 20) dJ2_grow_2_20 0 rfl ?_
      refine g_iload_n hX (pc := 21) dJ2_grow_2_21 2 rfl ?_
      refine g_iload_n hX (pc := 22) dJ2_grow_2_22 0 rfl ?_
      refine g_isub hX (pc := 23) dJ2_grow_2_23 ?_
      refine g_eqi 1 (by decide) ?_
      refine g_iload_n hX (pc := 24) dJ2_grow_2_24 0 rfl ?_
      refine g_iconst hX (pc := 25) (v := 1) dJ2_grow_2_25 (by decide) ?_
      refine g_ishr hX (pc := 26) dJ2_grow_2_26 ?_
      refine g_eqi 0 (by decide) ?_
      refine g_callS hX (pc := 27) kJ7_newLength (mt_newLength E l 0 1 0 1 (by decide) (by decide) (by decide)) q639 [] rfl rfl rfl (Nat.le_of_ble_eq_true rfl) (Nat.le_of_ble_eq_true rfl) (Nat.le_of_ble_eq_true rfl) (by omega) (by omega) dJ2_grow_2_27 (fun v w1 hp => ?_)
      obtain ⟨rfl, rfl⟩ := hp
      refine g_nrm (cs1 := [[(a, ob 15 [.int m0, .ref arr, .int 0])]]) (st1 := [.int (nI 1)]) rfl rfl ?_
      refine g_istore_n hX (pc := 30) (lv1 := [(3, .int (nI 1)), (2, .int 0), (0, .ref a), (1, .int 1)]) dJ2_grow_2_30 (by decide) rfl ?_
      refine g_aload_n hX (pc := 31) dJ2_grow_2_31 2 rfl ?_
      refine g_aload_n hX (pc := 32) dJ2_grow_2_32 2 rfl ?_
      refine g_get hX (pc := 33) fcJ2 0 rfl 1 (by decide) q140 rfl (v := .ref arr) rfl dJ2_grow_2_33 ?_
      refine g_iload_n hX (pc := 36) dJ2_grow_2_36 0 rfl ?_
      refine g_callS hX (pc := 37) kJ9_copyOf_2 (mt_copyOfs E l arr 1 (harr) (by decide)) q640 [] rfl rfl rfl (Nat.le_of_ble_eq_true rfl) (Nat.le_of_ble_eq_true rfl) (Nat.le_of_ble_eq_true rfl) (by omega) (by omega) dJ2_grow_2_37 (fun v w1 hp => ?_)
      obtain ⟨q3, rfl, rfl⟩ := hp
      refine g_nrm (cs1 := [[(q3, qA (aC E 2) 1 (va_cpy (fun _ => none) (fun _ => none) 0 0 0))], [(a, ob 15 [.int m0, .ref arr, .int 0])]]) (st1 := [.ref q3, .ref a]) rfl rfl ?_
      refine g_cs (cs1 := [[(q3, qA (aC E 2) 1 (fun _ => none))], [(a, ob 15 [.int m0, .ref arr, .int 0])]]) (by rw [al_cpyN]) ?_
      refine g_dup_x1 hX (pc := 40) dJ2_grow_2_40 rfl rfl ?_
      refine g_put hX (pc := 41) fcJ2 1 (fs1 := [.int m0, .ref q3, .int 0]) (cs1 := [[(q3, qA (aC E 2) 1 (fun _ => none))], [(a, ob 15 [.int m0, .ref q3, .int 0])]]) rfl 1 (by decide) q140 rfl rfl rfl rfl (Nat.le_of_ble_eq_true rfl) rfl rfl dJ2_grow_2_41 ?_
      refine g_pk [1, 0] rfl ?_
      refine g_cs (cs1 := [[(a, ob 15 [.int m0, .ref q3, .int 0])], [(q3, qA (aC E 2) 1 (fun _ => none))]]) rfl ?_
      refine g_aret hX (pc := 44) hR (by first | exact Or.inl ⟨_, rfl⟩ | exact Or.inr ⟨_, rfl⟩) ?_ (by omega) (by omega) dJ2_grow_2_44
      exact ⟨_, rfl, rfl⟩

set_option maxHeartbeats 4000000 in
theorem mt_growD (E : EE) (l : Launch) (a : Nat) (m0 : Int32) (arr : Nat) (harr0 : (arr = aX E 0)) : Mt E l yJ2_grow cJ2_grow 1 (some (.array (.object "java/lang/Object"))) 2 1 10 44 [.ref a] [[(a, ob 15 [.int m0, .ref arr, .int 0])]] (fun (v_ : Option Value) (cs_ : List va_W) => ∃ (q : Nat), v_ = some (.ref q) ∧ cs_ = [[(a, ob 15 [.int m0, .ref q, .int 0])], [(q, qA (aC E 2) 10 (fun _ => none))]]) := by
  refine Mt.of (by decide) (Nat.le_of_ble_eq_true rfl) (fun X hX hR hin => ?_)
  refine g_lv1 (lv1 := [(0, .ref a)]) rfl ?_
  refine g_aload_n hX (pc := 0) dJ2_grow_0 0 rfl ?_
  refine g_aload_n hX (pc := 1) dJ2_grow_1 0 rfl ?_
  refine g_get hX (pc := 2) fcJ2 0 rfl 2 (by decide) q143 rfl (v := .int 0) rfl dJ2_grow_2 ?_
  refine g_iconst hX (pc := 5) (v := 1) dJ2_grow_5 (by decide) ?_
  refine g_iadd hX (pc := 6) dJ2_grow_6 ?_
  refine g_eqi 1 (by decide) ?_
  refine g_callV hX (pc := 7) kJ2_grow_2 (mt_growD_i E l a m0 arr (harr0)) q635 fcJ2 (sp_mem (i := 0) rfl) [0] rfl rfl rfl (Nat.le_of_ble_eq_true rfl) (Nat.le_of_ble_eq_true rfl) (Nat.le_of_ble_eq_true rfl) (by omega) (by omega) dJ2_grow_7 (fun v w1 hp => ?_)
  obtain ⟨q1, rfl, rfl⟩ := hp
  refine g_nrm (cs1 := [[(a, ob 15 [.int m0, .ref q1, .int 0])], [(q1, qA (aC E 2) 10 (fun _ => none))]]) (st1 := [.ref q1]) rfl rfl ?_
  refine g_aret hX (pc := 10) hR (by first | exact Or.inl ⟨_, rfl⟩ | exact Or.inr ⟨_, rfl⟩) ?_ (by omega) (by omega) dJ2_grow_10
  exact ⟨_, rfl, rfl⟩

set_option maxHeartbeats 4000000 in
theorem mt_growE (E : EE) (l : Launch) (a : Nat) (m0 : Int32) (arr : Nat) (harr1 : (arr = aX E 1)) : Mt E l yJ2_grow cJ2_grow 1 (some (.array (.object "java/lang/Object"))) 4 1 1 107 [.ref a] [[(a, ob 15 [.int m0, .ref arr, .int 0])]] (fun (v_ : Option Value) (cs_ : List va_W) => ∃ (q : Nat), v_ = some (.ref q) ∧ cs_ = [[(a, ob 15 [.int m0, .ref q, .int 0])], [(q, qA (aC E 2) 1 (fun _ => none))]]) := by
  refine Mt.of (by decide) (Nat.le_of_ble_eq_true rfl) (fun X hX hR hin => ?_)
  refine g_lv1 (lv1 := [(0, .ref a)]) rfl ?_
  refine g_aload_n hX (pc := 0) dJ2_grow_0 0 rfl ?_
  refine g_aload_n hX (pc := 1) dJ2_grow_1 0 rfl ?_
  refine g_get hX (pc := 2) fcJ2 0 rfl 2 (by decide) q143 rfl (v := .int 0) rfl dJ2_grow_2 ?_
  refine g_iconst hX (pc := 5) (v := 1) dJ2_grow_5 (by decide) ?_
  refine g_iadd hX (pc := 6) dJ2_grow_6 ?_
  refine g_eqi 1 (by decide) ?_
  refine g_callV hX (pc := 7) kJ2_grow_2 (mt_growE_i E l a m0 arr (harr1)) q635 fcJ2 (sp_mem (i := 0) rfl) [0] rfl rfl rfl (Nat.le_of_ble_eq_true rfl) (Nat.le_of_ble_eq_true rfl) (Nat.le_of_ble_eq_true rfl) (by omega) (by omega) dJ2_grow_7 (fun v w1 hp => ?_)
  obtain ⟨q1, rfl, rfl⟩ := hp
  refine g_nrm (cs1 := [[(a, ob 15 [.int m0, .ref q1, .int 0])], [(q1, qA (aC E 2) 1 (fun _ => none))]]) (st1 := [.ref q1]) rfl rfl ?_
  refine g_aret hX (pc := 10) hR (by first | exact Or.inl ⟨_, rfl⟩ | exact Or.inr ⟨_, rfl⟩) ?_ (by omega) (by omega) dJ2_grow_10
  exact ⟨_, rfl, rfl⟩

set_option maxHeartbeats 4000000 in
theorem mt_add3 (E : EE) (l : Launch) (a : Nat) (m0 : Int32) (arr : Nat) (n : Nat) (cap : Nat) (f : Nat → Option Nat) (x : Nat) (el : va_W) (hn : (n < cap)) (hc : (cap ≤ 100000)) (hx : (okE E el x)) : Mt E l yJ2_add_3 cJ2_add_3 4 none 1 0 0 1 [.ref a, .ref x, .ref arr, .int (nI n)] [[(a, ob 15 [.int m0, .ref arr, .int (nI n)])], [(arr, qA (aC E 2) cap f)], el] (fun (v_ : Option Value) (cs_ : List va_W) => v_ = none ∧ cs_ = [[(a, ob 15 [.int m0, .ref arr, .int (nI (n + 1))])], [(arr, qA (aC E 2) cap (va_up f n (some x)))], el]) := by
  refine Mt.of (by decide) (Nat.le_of_ble_eq_true rfl) (fun X hX hR hin => ?_)
  refine g_lv1 (lv1 := [(0, .ref a), (1, .ref x), (2, .ref arr), (3, .int (nI n))]) rfl ?_
  refine g_iload_n hX (pc := 0) dJ2_add_3_0 3 rfl ?_
  refine g_aload_n hX (pc := 1) dJ2_add_3_1 2 rfl ?_
  refine g_alen hX (pc := 2) (sp_mem (i := 1) rfl) 2 rfl (v := (nI cap)) rfl dJ2_add_3_2 ?_
  refine g_icmp_ne hX (pc := 3) (tgt := 11) dJ2_add_3_3 rfl (fun c1 => ?_) (fun c1 => ?_)
  · refine g_aload_n hX (pc := 11) dJ2_add_3_11 2 rfl ?_
    refine g_iload_n hX (pc := 12) dJ2_add_3_12 3 rfl ?_
    refine g_aload_n hX (pc := 13) dJ2_add_3_13 1 rfl ?_
    refine g_aast hX (pc := 14) (t0 := 2) rfl (f1 := (va_up f n (some x))) (cs1 := [[(a, ob 15 [.int m0, .ref arr, .int (nI n)])], [(arr, qA (aC E 2) cap (va_up f n (some x)))], el]) 1 rfl (fun H locs hP hS => any_ok hX hP hS (el := el) (fun q hq => sp_in 2 rfl hq) hx) (vp_in_nI (by omega) (by omega)) (by rw [nI_clamp (by omega)]) rfl dJ2_add_3_14 ?_
    refine g_aload_n hX (pc := 15) dJ2_add_3_15 0 rfl ?_
    refine g_iload_n hX (pc := 16) dJ2_add_3_16 3 rfl ?_
    refine g_iconst hX (pc := 17) (v := 1) dJ2_add_3_17 (by decide) ?_
    refine g_iadd hX (pc := 18) dJ2_add_3_18 ?_
    refine g_eqi (nI (n + 1)) (nI_1 n) ?_
    refine g_put hX (pc := 19) fcJ2 0 (fs1 := [.int m0, .ref arr, .int (nI (n + 1))]) (cs1 := [[(a, ob 15 [.int m0, .ref arr, .int (nI (n + 1))])], [(arr, qA (aC E 2) cap (va_up f n (some x)))], el]) rfl 2 (by decide) q143 rfl rfl rfl rfl (Nat.le_of_ble_eq_true rfl) rfl rfl dJ2_add_3_19 ?_
    refine g_vret hX (pc := 22) hR ?_ (Nat.le_of_ble_eq_true rfl) (Nat.le_of_ble_eq_true rfl) dJ2_add_3_22
    exact ⟨rfl, rfl⟩
  · exact absurd ((nI_eq (by omega) (by omega)).mp c1) (by omega)

set_option maxHeartbeats 4000000 in
theorem mt_add3g (E : EE) (l : Launch) (a : Nat) (m0 : Int32) (arr : Nat) (n : Nat) (f : Nat → Option Nat) (x : Nat) (el : va_W) (hn1 : (1 ≤ n)) (hn : (n ≤ 60000)) (hx : (okE E el x)) (hok : (∀ i, i < n → ∀ y, f i = some y → okE E el y)) : Mt E l yJ2_add_3 cJ2_add_3 4 none 5 1 (n + max 1 (n / 2)) 127 [.ref a, .ref x, .ref arr, .int (nI n)] [[(a, ob 15 [.int m0, .ref arr, .int (nI n)])], [(arr, qA (aC E 2) n f)], el] (fun (v_ : Option Value) (cs_ : List va_W) => ∃ (q : Nat), v_ = none ∧ cs_ = [[(a, ob 15 [.int m0, .ref q, .int (nI (n + 1))])], [(q, qA (aC E 2) (n + max 1 (n / 2)) (va_up (va_cpy f (fun _ => none) 0 0 n) n (some x)))], el]) := by
  refine Mt.of (by decide) (Nat.le_of_ble_eq_true rfl) (fun X hX hR hin => ?_)
  refine g_lv1 (lv1 := [(0, .ref a), (1, .ref x), (2, .ref arr), (3, .int (nI n))]) rfl ?_
  refine g_iload_n hX (pc := 0) dJ2_add_3_0 3 rfl ?_
  refine g_aload_n hX (pc := 1) dJ2_add_3_1 2 rfl ?_
  refine g_alen hX (pc := 2) (sp_mem (i := 1) rfl) 2 rfl (v := (nI n)) rfl dJ2_add_3_2 ?_
  refine g_icmp_ne hX (pc := 3) (tgt := 11) dJ2_add_3_3 rfl (fun c1 => ?_) (fun c1 => ?_)
  · exact absurd rfl c1
  · refine g_aload_n hX (pc := 6) dJ2_add_3_6 0 rfl ?_
    refine g_callV hX (pc := 7) kJ2_grow (mt_growO E l a m0 arr n f el (hn1) (hn) (hok)) q631 fcJ2 (sp_mem (i := 0) rfl) [0, 0, 0] rfl rfl rfl (Nat.le_of_ble_eq_true rfl) (Nat.le_of_ble_eq_true rfl) (Nat.le_of_ble_eq_true rfl) (by omega) (by omega) dJ2_add_3_7 (fun v w1 hp => ?_)
    obtain ⟨q2, rfl, rfl⟩ := hp
    refine g_nrm (cs1 := [[(a, ob 15 [.int m0, .ref q2, .int (nI n)])], [(q2, qA (aC E 2) (n + max 1 (n / 2)) (va_cpy f (fun _ => none) 0 0 n))], el]) (st1 := [.ref q2]) rfl rfl ?_
    refine g_astore_n hX (pc := 10) (lv1 := [(2, .ref q2), (0, .ref a), (1, .ref x), (3, .int (nI n))]) dJ2_add_3_10 (by decide) rfl ?_
    refine g_aload_n hX (pc := 11) dJ2_add_3_11 0 rfl ?_
    refine g_iload_n hX (pc := 12) dJ2_add_3_12 3 rfl ?_
    refine g_aload_n hX (pc := 13) dJ2_add_3_13 2 rfl ?_
    refine g_aast hX (pc := 14) (t0 := 2) rfl (f1 := (va_up (va_cpy f (fun _ => none) 0 0 n) n (some x))) (cs1 := [[(a, ob 15 [.int m0, .ref q2, .int (nI n)])], [(q2, qA (aC E 2) (n + max 1 (n / 2)) (va_up (va_cpy f (fun _ => none) 0 0 n) n (some x)))], el]) 1 rfl (fun H locs hP hS => any_ok hX hP hS (el := el) (fun q hq => sp_in 2 rfl hq) hx) (vp_in_nI (by omega) (by omega)) (by rw [nI_clamp (by omega)]) rfl dJ2_add_3_14 ?_
    refine g_aload_n hX (pc := 15) dJ2_add_3_15 1 rfl ?_
    refine g_iload_n hX (pc := 16) dJ2_add_3_16 3 rfl ?_
    refine g_iconst hX (pc := 17) (v := 1) dJ2_add_3_17 (by decide) ?_
    refine g_iadd hX (pc := 18) dJ2_add_3_18 ?_
    refine g_eqi (nI (n + 1)) (nI_1 n) ?_
    refine g_put hX (pc := 19) fcJ2 0 (fs1 := [.int m0, .ref q2, .int (nI (n + 1))]) (cs1 := [[(a, ob 15 [.int m0, .ref q2, .int (nI (n + 1))])], [(q2, qA (aC E 2) (n + max 1 (n / 2)) (va_up (va_cpy f (fun _ => none) 0 0 n) n (some x)))], el]) rfl 2 (by decide) q143 rfl rfl rfl rfl (Nat.le_of_ble_eq_true rfl) rfl rfl dJ2_add_3_19 ?_
    refine g_vret hX (pc := 22) hR ?_ (by omega) (by omega) dJ2_add_3_22
    exact ⟨_, rfl, rfl⟩

set_option maxHeartbeats 4000000 in
theorem mt_add3D (E : EE) (l : Launch) (a : Nat) (m0 : Int32) (arr : Nat) (x : Nat) (el : va_W) (harr0 : (arr = aX E 0)) (hx : (okE E el x)) : Mt E l yJ2_add_3 cJ2_add_3 4 none 3 1 10 64 [.ref a, .ref x, .ref arr, .int 0] [[(a, ob 15 [.int m0, .ref arr, .int 0])], el] (fun (v_ : Option Value) (cs_ : List va_W) => ∃ (q : Nat), v_ = none ∧ cs_ = [[(a, ob 15 [.int m0, .ref q, .int 1])], [(q, qA (aC E 2) 10 (va_up (fun _ => none) 0 (some x)))], el]) := by
  have harr : arr = aX E 0 ∨ arr = aX E 1 := Or.inl harr0
  refine Mt.of (by decide) (Nat.le_of_ble_eq_true rfl) (fun X hX hR hin => ?_)
  refine g_lv1 (lv1 := [(0, .ref a), (1, .ref x), (2, .ref arr), (3, .int 0)]) rfl ?_
  refine g_iload_n hX (pc := 0) dJ2_add_3_0 3 rfl ?_
  refine g_aload_n hX (pc := 1) dJ2_add_3_1 2 rfl ?_
  refine g_tlen hX (pc := 2) (cx_T0 hX harr) (v := 0) rfl dJ2_add_3_2 ?_
  refine g_icmp_ne hX (pc := 3) (tgt := 11) dJ2_add_3_3 rfl (fun c1 => ?_) (fun c1 => ?_)
  · exact absurd c1 (by decide)
  · refine g_aload_n hX (pc := 6) dJ2_add_3_6 0 rfl ?_
    refine g_callV hX (pc := 7) kJ2_grow (mt_growD E l a m0 arr (harr0)) q631 fcJ2 (sp_mem (i := 0) rfl) [0] rfl rfl rfl (Nat.le_of_ble_eq_true rfl) (Nat.le_of_ble_eq_true rfl) (Nat.le_of_ble_eq_true rfl) (by omega) (by omega) dJ2_add_3_7 (fun v w1 hp => ?_)
    obtain ⟨q2, rfl, rfl⟩ := hp
    refine g_nrm (cs1 := [[(a, ob 15 [.int m0, .ref q2, .int 0])], [(q2, qA (aC E 2) 10 (fun _ => none))], el]) (st1 := [.ref q2]) rfl rfl ?_
    refine g_astore_n hX (pc := 10) (lv1 := [(2, .ref q2), (0, .ref a), (1, .ref x), (3, .int 0)]) dJ2_add_3_10 (by decide) rfl ?_
    refine g_aload_n hX (pc := 11) dJ2_add_3_11 0 rfl ?_
    refine g_iload_n hX (pc := 12) dJ2_add_3_12 3 rfl ?_
    refine g_aload_n hX (pc := 13) dJ2_add_3_13 2 rfl ?_
    refine g_aast hX (pc := 14) (t0 := 2) rfl (f1 := (va_up (fun _ => none) 0 (some x))) (cs1 := [[(a, ob 15 [.int m0, .ref q2, .int 0])], [(q2, qA (aC E 2) 10 (va_up (fun _ => none) 0 (some x)))], el]) 1 rfl (fun H locs hP hS => any_ok hX hP hS (el := el) (fun q hq => sp_in 2 rfl hq) hx) (by unfold vp_in; decide) (by rw [sb_cl0]) rfl dJ2_add_3_14 ?_
    refine g_aload_n hX (pc := 15) dJ2_add_3_15 1 rfl ?_
    refine g_iload_n hX (pc := 16) dJ2_add_3_16 3 rfl ?_
    refine g_iconst hX (pc := 17) (v := 1) dJ2_add_3_17 (by decide) ?_
    refine g_iadd hX (pc := 18) dJ2_add_3_18 ?_
    refine g_eqi 1 (by decide) ?_
    refine g_put hX (pc := 19) fcJ2 0 (fs1 := [.int m0, .ref q2, .int 1]) (cs1 := [[(a, ob 15 [.int m0, .ref q2, .int 1])], [(q2, qA (aC E 2) 10 (va_up (fun _ => none) 0 (some x)))], el]) rfl 2 (by decide) q143 rfl rfl rfl rfl (Nat.le_of_ble_eq_true rfl) rfl rfl dJ2_add_3_19 ?_
    refine g_vret hX (pc := 22) hR ?_ (by omega) (by omega) dJ2_add_3_22
    exact ⟨_, rfl, rfl⟩

set_option maxHeartbeats 4000000 in
theorem mt_add3E (E : EE) (l : Launch) (a : Nat) (m0 : Int32) (arr : Nat) (x : Nat) (el : va_W) (harr1 : (arr = aX E 1)) (hx : (okE E el x)) : Mt E l yJ2_add_3 cJ2_add_3 4 none 5 1 1 127 [.ref a, .ref x, .ref arr, .int 0] [[(a, ob 15 [.int m0, .ref arr, .int 0])], el] (fun (v_ : Option Value) (cs_ : List va_W) => ∃ (q : Nat), v_ = none ∧ cs_ = [[(a, ob 15 [.int m0, .ref q, .int 1])], [(q, qA (aC E 2) 1 (va_up (fun _ => none) 0 (some x)))], el]) := by
  have harr : arr = aX E 0 ∨ arr = aX E 1 := Or.inr harr1
  refine Mt.of (by decide) (Nat.le_of_ble_eq_true rfl) (fun X hX hR hin => ?_)
  refine g_lv1 (lv1 := [(0, .ref a), (1, .ref x), (2, .ref arr), (3, .int 0)]) rfl ?_
  refine g_iload_n hX (pc := 0) dJ2_add_3_0 3 rfl ?_
  refine g_aload_n hX (pc := 1) dJ2_add_3_1 2 rfl ?_
  refine g_tlen hX (pc := 2) (cx_T0 hX harr) (v := 0) rfl dJ2_add_3_2 ?_
  refine g_icmp_ne hX (pc := 3) (tgt := 11) dJ2_add_3_3 rfl (fun c1 => ?_) (fun c1 => ?_)
  · exact absurd c1 (by decide)
  · refine g_aload_n hX (pc := 6) dJ2_add_3_6 0 rfl ?_
    refine g_callV hX (pc := 7) kJ2_grow (mt_growE E l a m0 arr (harr1)) q631 fcJ2 (sp_mem (i := 0) rfl) [0] rfl rfl rfl (Nat.le_of_ble_eq_true rfl) (Nat.le_of_ble_eq_true rfl) (Nat.le_of_ble_eq_true rfl) (by omega) (by omega) dJ2_add_3_7 (fun v w1 hp => ?_)
    obtain ⟨q2, rfl, rfl⟩ := hp
    refine g_nrm (cs1 := [[(a, ob 15 [.int m0, .ref q2, .int 0])], [(q2, qA (aC E 2) 1 (fun _ => none))], el]) (st1 := [.ref q2]) rfl rfl ?_
    refine g_astore_n hX (pc := 10) (lv1 := [(2, .ref q2), (0, .ref a), (1, .ref x), (3, .int 0)]) dJ2_add_3_10 (by decide) rfl ?_
    refine g_aload_n hX (pc := 11) dJ2_add_3_11 0 rfl ?_
    refine g_iload_n hX (pc := 12) dJ2_add_3_12 3 rfl ?_
    refine g_aload_n hX (pc := 13) dJ2_add_3_13 2 rfl ?_
    refine g_aast hX (pc := 14) (t0 := 2) rfl (f1 := (va_up (fun _ => none) 0 (some x))) (cs1 := [[(a, ob 15 [.int m0, .ref q2, .int 0])], [(q2, qA (aC E 2) 1 (va_up (fun _ => none) 0 (some x)))], el]) 1 rfl (fun H locs hP hS => any_ok hX hP hS (el := el) (fun q hq => sp_in 2 rfl hq) hx) (by unfold vp_in; decide) (by rw [sb_cl0]) rfl dJ2_add_3_14 ?_
    refine g_aload_n hX (pc := 15) dJ2_add_3_15 1 rfl ?_
    refine g_iload_n hX (pc := 16) dJ2_add_3_16 3 rfl ?_
    refine g_iconst hX (pc := 17) (v := 1) dJ2_add_3_17 (by decide) ?_
    refine g_iadd hX (pc := 18) dJ2_add_3_18 ?_
    refine g_eqi 1 (by decide) ?_
    refine g_put hX (pc := 19) fcJ2 0 (fs1 := [.int m0, .ref q2, .int 1]) (cs1 := [[(a, ob 15 [.int m0, .ref q2, .int 1])], [(q2, qA (aC E 2) 1 (va_up (fun _ => none) 0 (some x)))], el]) rfl 2 (by decide) q143 rfl rfl rfl rfl (Nat.le_of_ble_eq_true rfl) rfl rfl dJ2_add_3_19 ?_
    refine g_vret hX (pc := 22) hR ?_ (by omega) (by omega) dJ2_add_3_22
    exact ⟨_, rfl, rfl⟩

set_option maxHeartbeats 4000000 in
theorem mt_AL_add (E : EE) (l : Launch) (a : Nat) (as : List Nat) (w : va_W) (x : Nat) (el : va_W) (N : Nat) (hw : AL E a as w) (hN : (as.length ≤ N)) (hN2 : (N ≤ 60000)) (hx : (okE E el x)) (hok : (okL E el as)) : Mt E l yJ2_add_2 cJ2_add_2 2 (some .boolean) 6 1 (N + N + 10) 150 [.ref a, .ref x] [w, el] (fun (v_ : Option Value) (cs_ : List va_W) => ∃ (w1 : va_W), AL E a (as ++ [x]) w1 ∧ v_ = some (.int 1) ∧ cs_ = [w1, el]) := by
  obtain ⟨m0, arr, cap, f, h1, h2, h3, hc⟩ := hw
  have he : nI (as ++ [x]).length = nI (as.length + 1) := by rw [List.length_append, List.length_singleton]
  have hk : ∀ i, i < as.length → ∀ y, f i = some y → okE E el y := fun i hi y hy => hok.get (i := i) (by rw [← h3 i hi]; exact hy)
  have hc4 : (as.length < cap ∧ w = [(a, ob 15 [.int m0, .ref arr, .int (nI as.length)]), (arr, qA (aC E 2) cap f)]) ∨ (as.length = cap ∧ 1 ≤ cap ∧ w = [(a, ob 15 [.int m0, .ref arr, .int (nI as.length)]), (arr, qA (aC E 2) cap f)]) ∨ (as = [] ∧ arr = aX E 0 ∧ w = [(a, ob 15 [.int m0, .ref arr, .int (nI as.length)])]) ∨ (as = [] ∧ arr = aX E 1 ∧ w = [(a, ob 15 [.int m0, .ref arr, .int (nI as.length)])]) := by
    rcases hc with ⟨h4, h5⟩ | ⟨h4, h5, h6⟩
    · rcases Nat.lt_or_ge as.length cap with h6 | h6
      · exact Or.inl ⟨h6, h5⟩
      · exact Or.inr (Or.inl ⟨by omega, h4, h5⟩)
    · have h7 : as = [] := List.eq_nil_of_length_eq_zero (by omega)
      rcases h5 with h5 | h5
      · exact Or.inr (Or.inr (Or.inl ⟨h7, h5, h6⟩))
      · exact Or.inr (Or.inr (Or.inr ⟨h7, h5, h6⟩))
  rcases hc4 with ⟨h5, rfl⟩ | ⟨rfl, h4, rfl⟩ | ⟨rfl, harr0, rfl⟩ | ⟨rfl, harr1, rfl⟩
  · refine Mt.of (by decide) (Nat.le_of_ble_eq_true rfl) (fun X hX hR hin => ?_)
    refine g_lv1 (lv1 := [(0, .ref a), (1, .ref x)]) rfl ?_
    refine g_fl (cs1 := [[(a, ob 15 [.int m0, .ref arr, .int (nI as.length)])], [(arr, qA (aC E 2) cap f)], el]) rfl ?_
    refine g_aload_n hX (pc := 0) dJ2_add_2_0 0 rfl ?_
    refine g_dup hX (pc := 1) dJ2_add_2_1 rfl ?_
    refine g_getU hX (pc := 2) fcJ2 0 rfl 0 (by decide) q147 q146 (v := .int m0) rfl dJ2_add_2_2 ?_
    refine g_iconst hX (pc := 5) (v := 1) dJ2_add_2_5 (by decide) ?_
    refine g_iadd hX (pc := 6) dJ2_add_2_6 ?_
    refine g_putU hX (pc := 7) fcJ2 0 (fs1 := [.int (m0 + 1), .ref arr, .int (nI as.length)]) (cs1 := [[(a, ob 15 [.int (m0 + 1), .ref arr, .int (nI as.length)])], [(arr, qA (aC E 2) cap f)], el]) rfl 0 (by decide) q147 q146 rfl rfl rfl (Nat.le_of_ble_eq_true rfl) rfl rfl dJ2_add_2_7 ?_
    refine g_aload_n hX (pc := 10) dJ2_add_2_10 0 rfl ?_
    refine g_aload_n hX (pc := 11) dJ2_add_2_11 1 rfl ?_
    refine g_aload_n hX (pc := 12) dJ2_add_2_12 0 rfl ?_
    refine g_get hX (pc := 13) fcJ2 0 rfl 1 (by decide) q140 rfl (v := .ref arr) rfl dJ2_add_2_13 ?_
    refine g_aload_n hX (pc := 16) dJ2_add_2_16 0 rfl ?_
    refine g_get hX (pc := 17) fcJ2 0 rfl 2 (by decide) q143 rfl (v := .int (nI as.length)) rfl dJ2_add_2_17 ?_
    refine g_callV hX (pc := 20) kJ2_add_3 (mt_add3 E l a (m0 + 1) arr as.length cap f x el (h5) (h2) (hx)) q881 fcJ2 (sp_mem (i := 0) rfl) [0, 0, 0] rfl rfl rfl (Nat.le_of_ble_eq_true rfl) (Nat.le_of_ble_eq_true rfl) (Nat.le_of_ble_eq_true rfl) (by omega) (by omega) dJ2_add_2_20 (fun v w1 hp => ?_)
    obtain ⟨rfl, rfl⟩ := hp
    refine g_nrm (cs1 := [[(a, ob 15 [.int (m0 + 1), .ref arr, .int (nI (as.length + 1))])], [(arr, qA (aC E 2) cap (va_up f as.length (some x)))], el]) (st1 := []) rfl rfl ?_
    refine g_iconst hX (pc := 23) (v := 1) dJ2_add_2_23 (by decide) ?_
    refine g_cs (cs1 := [[(a, ob 15 [.int (m0 + 1), .ref arr, .int (nI (List.length (as ++ [x])))])], [(arr, qA (aC E 2) cap (va_up f as.length (some x)))], el]) (by rw [he]) ?_
    refine g_pk [0, 0] rfl ?_
    refine g_fl (cs1 := [[(a, ob 15 [.int (m0 + 1), .ref arr, .int (nI (List.length (as ++ [x])))]), (arr, qA (aC E 2) cap (va_up f as.length (some x)))], el]) rfl ?_
    refine g_zret hX (pc := 24) hR rfl ?_ (by omega) (by omega) dJ2_add_2_24
    exact ⟨_, ⟨m0 + 1, _, cap, va_up f as.length (some x), by rw [List.length_append, List.length_singleton]; omega, h2, al_add h3, Or.inl ⟨by omega, rfl⟩⟩, rfl, rfl⟩
  · refine Mt.of (by decide) (Nat.le_of_ble_eq_true rfl) (fun X hX hR hin => ?_)
    refine g_lv1 (lv1 := [(0, .ref a), (1, .ref x)]) rfl ?_
    refine g_fl (cs1 := [[(a, ob 15 [.int m0, .ref arr, .int (nI as.length)])], [(arr, qA (aC E 2) as.length f)], el]) rfl ?_
    refine g_aload_n hX (pc := 0) dJ2_add_2_0 0 rfl ?_
    refine g_dup hX (pc := 1) dJ2_add_2_1 rfl ?_
    refine g_getU hX (pc := 2) fcJ2 0 rfl 0 (by decide) q147 q146 (v := .int m0) rfl dJ2_add_2_2 ?_
    refine g_iconst hX (pc := 5) (v := 1) dJ2_add_2_5 (by decide) ?_
    refine g_iadd hX (pc := 6) dJ2_add_2_6 ?_
    refine g_putU hX (pc := 7) fcJ2 0 (fs1 := [.int (m0 + 1), .ref arr, .int (nI as.length)]) (cs1 := [[(a, ob 15 [.int (m0 + 1), .ref arr, .int (nI as.length)])], [(arr, qA (aC E 2) as.length f)], el]) rfl 0 (by decide) q147 q146 rfl rfl rfl (Nat.le_of_ble_eq_true rfl) rfl rfl dJ2_add_2_7 ?_
    refine g_aload_n hX (pc := 10) dJ2_add_2_10 0 rfl ?_
    refine g_aload_n hX (pc := 11) dJ2_add_2_11 1 rfl ?_
    refine g_aload_n hX (pc := 12) dJ2_add_2_12 0 rfl ?_
    refine g_get hX (pc := 13) fcJ2 0 rfl 1 (by decide) q140 rfl (v := .ref arr) rfl dJ2_add_2_13 ?_
    refine g_aload_n hX (pc := 16) dJ2_add_2_16 0 rfl ?_
    refine g_get hX (pc := 17) fcJ2 0 rfl 2 (by decide) q143 rfl (v := .int (nI as.length)) rfl dJ2_add_2_17 ?_
    refine g_callV hX (pc := 20) kJ2_add_3 (mt_add3g E l a (m0 + 1) arr as.length f x el (by omega) (by omega) (hx) (hk)) q881 fcJ2 (sp_mem (i := 0) rfl) [0, 0, 0] rfl rfl rfl (Nat.le_of_ble_eq_true rfl) (Nat.le_of_ble_eq_true rfl) (Nat.le_of_ble_eq_true rfl) (by omega) (by omega) dJ2_add_2_20 (fun v w1 hp => ?_)
    obtain ⟨q1, rfl, rfl⟩ := hp
    refine g_nrm (cs1 := [[(a, ob 15 [.int (m0 + 1), .ref q1, .int (nI (as.length + 1))])], [(q1, qA (aC E 2) (as.length + max 1 (as.length / 2)) (va_up (va_cpy f (fun _ => none) 0 0 as.length) as.length (some x)))], el]) (st1 := []) rfl rfl ?_
    refine g_iconst hX (pc := 23) (v := 1) dJ2_add_2_23 (by decide) ?_
    refine g_cs (cs1 := [[(a, ob 15 [.int (m0 + 1), .ref q1, .int (nI (List.length (as ++ [x])))])], [(q1, qA (aC E 2) (as.length + max 1 (as.length / 2)) (va_up (va_cpy f (fun _ => none) 0 0 as.length) as.length (some x)))], el]) (by rw [he]) ?_
    refine g_pk [0, 0] rfl ?_
    refine g_fl (cs1 := [[(a, ob 15 [.int (m0 + 1), .ref q1, .int (nI (List.length (as ++ [x])))]), (q1, qA (aC E 2) (as.length + max 1 (as.length / 2)) (va_up (va_cpy f (fun _ => none) 0 0 as.length) as.length (some x)))], el]) rfl ?_
    refine g_zret hX (pc := 24) hR rfl ?_ (by omega) (by omega) dJ2_add_2_24
    exact ⟨_, ⟨m0 + 1, _, _, va_up (va_cpy f (fun _ => none) 0 0 as.length) as.length (some x), by rw [List.length_append, List.length_singleton]; omega, by omega, al_add (al_cpy (Nat.le_refl _) h3), Or.inl ⟨by omega, rfl⟩⟩, rfl, rfl⟩
  · refine Mt.of (by decide) (Nat.le_of_ble_eq_true rfl) (fun X hX hR hin => ?_)
    refine g_lv1 (lv1 := [(0, .ref a), (1, .ref x)]) rfl ?_
    refine g_fl (cs1 := [[(a, ob 15 [.int m0, .ref arr, .int 0])], el]) rfl ?_
    refine g_aload_n hX (pc := 0) dJ2_add_2_0 0 rfl ?_
    refine g_dup hX (pc := 1) dJ2_add_2_1 rfl ?_
    refine g_getU hX (pc := 2) fcJ2 0 rfl 0 (by decide) q147 q146 (v := .int m0) rfl dJ2_add_2_2 ?_
    refine g_iconst hX (pc := 5) (v := 1) dJ2_add_2_5 (by decide) ?_
    refine g_iadd hX (pc := 6) dJ2_add_2_6 ?_
    refine g_putU hX (pc := 7) fcJ2 0 (fs1 := [.int (m0 + 1), .ref arr, .int 0]) (cs1 := [[(a, ob 15 [.int (m0 + 1), .ref arr, .int 0])], el]) rfl 0 (by decide) q147 q146 rfl rfl rfl (Nat.le_of_ble_eq_true rfl) rfl rfl dJ2_add_2_7 ?_
    refine g_aload_n hX (pc := 10) dJ2_add_2_10 0 rfl ?_
    refine g_aload_n hX (pc := 11) dJ2_add_2_11 1 rfl ?_
    refine g_aload_n hX (pc := 12) dJ2_add_2_12 0 rfl ?_
    refine g_get hX (pc := 13) fcJ2 0 rfl 1 (by decide) q140 rfl (v := .ref arr) rfl dJ2_add_2_13 ?_
    refine g_aload_n hX (pc := 16) dJ2_add_2_16 0 rfl ?_
    refine g_get hX (pc := 17) fcJ2 0 rfl 2 (by decide) q143 rfl (v := .int 0) rfl dJ2_add_2_17 ?_
    refine g_callV hX (pc := 20) kJ2_add_3 (mt_add3D E l a (m0 + 1) arr x el (harr0) (hx)) q881 fcJ2 (sp_mem (i := 0) rfl) [0, 0] rfl rfl rfl (Nat.le_of_ble_eq_true rfl) (Nat.le_of_ble_eq_true rfl) (Nat.le_of_ble_eq_true rfl) (by omega) (by omega) dJ2_add_2_20 (fun v w1 hp => ?_)
    obtain ⟨q1, rfl, rfl⟩ := hp
    refine g_nrm (cs1 := [[(a, ob 15 [.int (m0 + 1), .ref q1, .int 1])], [(q1, qA (aC E 2) 10 (va_up (fun _ => none) 0 (some x)))], el]) (st1 := []) rfl rfl ?_
    refine g_iconst hX (pc := 23) (v := 1) dJ2_add_2_23 (by decide) ?_
    refine g_cs (cs1 := [[(a, ob 15 [.int (m0 + 1), .ref q1, .int (nI (List.length (([] : List Nat) ++ [x])))])], [(q1, qA (aC E 2) 10 (va_up (fun _ => none) 0 (some x)))], el]) (rfl) ?_
    refine g_pk [0, 0] rfl ?_
    refine g_fl (cs1 := [[(a, ob 15 [.int (m0 + 1), .ref q1, .int (nI (List.length (([] : List Nat) ++ [x])))]), (q1, qA (aC E 2) 10 (va_up (fun _ => none) 0 (some x)))], el]) rfl ?_
    refine g_zret hX (pc := 24) hR rfl ?_ (by omega) (by omega) dJ2_add_2_24
    exact ⟨_, ⟨m0 + 1, _, 10, _, by simp, by omega, al_add (as := []) (fun i hi => absurd hi (Nat.not_lt_zero _)), Or.inl ⟨by omega, rfl⟩⟩, rfl, rfl⟩
  · refine Mt.of (by decide) (Nat.le_of_ble_eq_true rfl) (fun X hX hR hin => ?_)
    refine g_lv1 (lv1 := [(0, .ref a), (1, .ref x)]) rfl ?_
    refine g_fl (cs1 := [[(a, ob 15 [.int m0, .ref arr, .int 0])], el]) rfl ?_
    refine g_aload_n hX (pc := 0) dJ2_add_2_0 0 rfl ?_
    refine g_dup hX (pc := 1) dJ2_add_2_1 rfl ?_
    refine g_getU hX (pc := 2) fcJ2 0 rfl 0 (by decide) q147 q146 (v := .int m0) rfl dJ2_add_2_2 ?_
    refine g_iconst hX (pc := 5) (v := 1) dJ2_add_2_5 (by decide) ?_
    refine g_iadd hX (pc := 6) dJ2_add_2_6 ?_
    refine g_putU hX (pc := 7) fcJ2 0 (fs1 := [.int (m0 + 1), .ref arr, .int 0]) (cs1 := [[(a, ob 15 [.int (m0 + 1), .ref arr, .int 0])], el]) rfl 0 (by decide) q147 q146 rfl rfl rfl (Nat.le_of_ble_eq_true rfl) rfl rfl dJ2_add_2_7 ?_
    refine g_aload_n hX (pc := 10) dJ2_add_2_10 0 rfl ?_
    refine g_aload_n hX (pc := 11) dJ2_add_2_11 1 rfl ?_
    refine g_aload_n hX (pc := 12) dJ2_add_2_12 0 rfl ?_
    refine g_get hX (pc := 13) fcJ2 0 rfl 1 (by decide) q140 rfl (v := .ref arr) rfl dJ2_add_2_13 ?_
    refine g_aload_n hX (pc := 16) dJ2_add_2_16 0 rfl ?_
    refine g_get hX (pc := 17) fcJ2 0 rfl 2 (by decide) q143 rfl (v := .int 0) rfl dJ2_add_2_17 ?_
    refine g_callV hX (pc := 20) kJ2_add_3 (mt_add3E E l a (m0 + 1) arr x el (harr1) (hx)) q881 fcJ2 (sp_mem (i := 0) rfl) [0, 0] rfl rfl rfl (Nat.le_of_ble_eq_true rfl) (Nat.le_of_ble_eq_true rfl) (Nat.le_of_ble_eq_true rfl) (by omega) (by omega) dJ2_add_2_20 (fun v w1 hp => ?_)
    obtain ⟨q1, rfl, rfl⟩ := hp
    refine g_nrm (cs1 := [[(a, ob 15 [.int (m0 + 1), .ref q1, .int 1])], [(q1, qA (aC E 2) 1 (va_up (fun _ => none) 0 (some x)))], el]) (st1 := []) rfl rfl ?_
    refine g_iconst hX (pc := 23) (v := 1) dJ2_add_2_23 (by decide) ?_
    refine g_cs (cs1 := [[(a, ob 15 [.int (m0 + 1), .ref q1, .int (nI (List.length (([] : List Nat) ++ [x])))])], [(q1, qA (aC E 2) 1 (va_up (fun _ => none) 0 (some x)))], el]) (rfl) ?_
    refine g_pk [0, 0] rfl ?_
    refine g_fl (cs1 := [[(a, ob 15 [.int (m0 + 1), .ref q1, .int (nI (List.length (([] : List Nat) ++ [x])))]), (q1, qA (aC E 2) 1 (va_up (fun _ => none) 0 (some x)))], el]) rfl ?_
    refine g_zret hX (pc := 24) hR rfl ?_ (by omega) (by omega) dJ2_add_2_24
    exact ⟨_, ⟨m0 + 1, _, 1, _, by simp, by omega, al_add (as := []) (fun i hi => absurd hi (Nat.not_lt_zero _)), Or.inl ⟨by omega, rfl⟩⟩, rfl, rfl⟩

set_option maxHeartbeats 4000000 in
theorem mt_fastRemove_a (E : EE) (l : Launch) (a : Nat) (m0 : Int32) (arr : Nat) (n : Nat) (cap : Nat) (f : Nat → Option Nat) (k : Nat) (el : va_W) (hk : (k + 1 < n)) (hn : (n ≤ cap)) (hc : (cap ≤ 100000)) (hok : (∀ i, i < n → ∀ y, f i = some y → okE E el y)) : Mt E l yJ2_fastRemove cJ2_fastRemove 4 none 1 0 0 40 [.ref a, .ref arr, .int (nI k)] [[(a, ob 15 [.int m0, .ref arr, .int (nI n)])], [(arr, qA (aC E 2) cap f)], el] (fun (v_ : Option Value) (cs_ : List va_W) => v_ = none ∧ cs_ = [[(a, ob 15 [.int (m0 + 1), .ref arr, .int (nI (n - 1))])], [(arr, qA (aC E 2) cap (va_up (va_cpy f f (k + 1) k (n - 1 - k)) (n - 1) none))], el]) := by
  refine Mt.of (by decide) (Nat.le_of_ble_eq_true rfl) (fun X hX hR hin => ?_)
  refine g_lv1 (lv1 := [(0, .ref a), (1, .ref arr), (2, .int (nI k))]) rfl ?_
  refine g_aload_n hX (pc := 0) dJ2_fastRemove_0 0 rfl ?_
  refine g_dup hX (pc := 1) dJ2_fastRemove_1 rfl ?_
  refine g_getU hX (pc := 2) fcJ2 0 rfl 0 (by decide) q147 q146 (v := .int m0) rfl dJ2_fastRemove_2 ?_
  refine g_iconst hX (pc := 5) (v := 1) dJ2_fastRemove_5 (by decide) ?_
  refine g_iadd hX (pc := 6) dJ2_fastRemove_6 ?_
  refine g_putU hX (pc := 7) fcJ2 0 (fs1 := [.int (m0 + 1), .ref arr, .int (nI n)]) (cs1 := [[(a, ob 15 [.int (m0 + 1), .ref arr, .int (nI n)])], [(arr, qA (aC E 2) cap f)], el]) rfl 0 (by decide) q147 q146 rfl rfl rfl (Nat.le_of_ble_eq_true rfl) rfl rfl dJ2_fastRemove_7 ?_
  refine g_aload_n hX (pc := 10) dJ2_fastRemove_10 0 rfl ?_
  refine g_get hX (pc := 11) fcJ2 0 rfl 2 (by decide) q143 rfl (v := .int (nI n)) rfl dJ2_fastRemove_11 ?_
  refine g_iconst hX (pc := 14) (v := 1) dJ2_fastRemove_14 (by decide) ?_
  refine g_isub hX (pc := 15) dJ2_fastRemove_15 ?_
  refine g_eqi (nI (n - 1)) (pk_sub (b := 1) (by omega)) ?_
  refine g_dup hX (pc := 16) dJ2_fastRemove_16 rfl ?_
  refine g_istore_n hX (pc := 17) (lv1 := [(3, .int (nI (n - 1))), (0, .ref a), (1, .ref arr), (2, .int (nI k))]) dJ2_fastRemove_17 (by decide) rfl ?_
  refine g_iload_n hX (pc := 18) dJ2_fastRemove_18 3 rfl ?_
  refine g_icmp_le hX (pc := 19) (tgt := 34) dJ2_fastRemove_19 rfl (fun c1 => ?_) (fun c1 => ?_)
  · exact absurd c1 (nI_ge (by omega) (by omega))
  · refine g_aload_n hX (pc := 22) dJ2_fastRemove_22 2 rfl ?_
    refine g_iload_n hX (pc := 23) dJ2_fastRemove_23 3 rfl ?_
    refine g_iconst hX (pc := 24) (v := 1) dJ2_fastRemove_24 (by decide) ?_
    refine g_iadd hX (pc := 25) dJ2_fastRemove_25 ?_
    refine g_eqi (nI (k + 1)) (nI_1 k) ?_
    refine g_aload_n hX (pc := 26) dJ2_fastRemove_26 2 rfl ?_
    refine g_iload_n hX (pc := 27) dJ2_fastRemove_27 3 rfl ?_
    refine g_iload_n hX (pc := 28) dJ2_fastRemove_28 0 rfl ?_
    refine g_iload_n hX (pc := 29) dJ2_fastRemove_29 3 rfl ?_
    refine g_isub hX (pc := 30) dJ2_fastRemove_30 ?_
    refine g_eqi (nI (n - 1 - k)) (pk_sub (by omega)) ?_
    refine g_copyq hX (pc := 31) q681 q_ac1 q_ac2 q_ac3 (sp_mem (i := 1) rfl) 1 (cs1 := [[(a, ob 15 [.int (m0 + 1), .ref arr, .int (nI n)])], [(arr, qA (aC E 2) cap (va_cpy f f (k + 1) k (n - 1 - k)))], el]) rfl (nI_pos (by omega)) (nI_pos (by omega)) (nI_pos (by omega)) (by rw [nI_clamp (by omega), nI_clamp (by omega)]; omega) (by rw [nI_clamp (by omega), nI_clamp (by omega)]; omega) (fun H locs hP hS i hi y hy => any_ok hX hP hS (el := el) (fun q hq => sp_in 2 rfl hq) (hok (k + 1 + i) (by rw [nI_clamp (by omega)] at hi; omega) y (by rw [nI_clamp (by omega)] at hy; exact hy))) (g1 := (va_cpy f f (k + 1) k (n - 1 - k))) (by rw [nI_clamp (by omega), nI_clamp (by omega), nI_clamp (by omega)]) rfl (Nat.le_of_ble_eq_true rfl) (Nat.le_of_ble_eq_true rfl) dJ2_fastRemove_31 ?_
    refine g_aload_n hX (pc := 34) dJ2_fastRemove_34 2 rfl ?_
    refine g_aload_n hX (pc := 35) dJ2_fastRemove_35 1 rfl ?_
    refine g_iload_n hX (pc := 36) dJ2_fastRemove_36 0 rfl ?_
    refine g_dup_x1 hX (pc := 37) dJ2_fastRemove_37 rfl rfl ?_
    refine g_put hX (pc := 38) fcJ2 0 (fs1 := [.int (m0 + 1), .ref arr, .int (nI (n - 1))]) (cs1 := [[(a, ob 15 [.int (m0 + 1), .ref arr, .int (nI (n - 1))])], [(arr, qA (aC E 2) cap (va_cpy f f (k + 1) k (n - 1 - k)))], el]) rfl 2 (by decide) q143 rfl rfl rfl rfl (Nat.le_of_ble_eq_true rfl) rfl rfl dJ2_fastRemove_38 ?_
    refine g_null hX (pc := 41) dJ2_fastRemove_41 ?_
    refine g_aastN hX (pc := 42) (t0 := 2) rfl (f1 := (va_up (va_cpy f f (k + 1) k (n - 1 - k)) (n - 1) none)) (cs1 := [[(a, ob 15 [.int (m0 + 1), .ref arr, .int (nI (n - 1))])], [(arr, qA (aC E 2) cap (va_up (va_cpy f f (k + 1) k (n - 1 - k)) (n - 1) none))], el]) 1 rfl (vp_in_nI (by omega) (by omega)) (by rw [nI_clamp (by omega)]) rfl dJ2_fastRemove_42 ?_
    refine g_vret hX (pc := 43) hR ?_ (by omega) (by omega) dJ2_fastRemove_43
    exact ⟨rfl, rfl⟩

set_option maxHeartbeats 4000000 in
theorem mt_fastRemove_b (E : EE) (l : Launch) (a : Nat) (m0 : Int32) (arr : Nat) (n : Nat) (cap : Nat) (f : Nat → Option Nat) (k : Nat) (el : va_W) (hk : (k + 1 = n)) (hn : (n ≤ cap)) (hc : (cap ≤ 100000)) : Mt E l yJ2_fastRemove cJ2_fastRemove 4 none 1 0 0 1 [.ref a, .ref arr, .int (nI k)] [[(a, ob 15 [.int m0, .ref arr, .int (nI n)])], [(arr, qA (aC E 2) cap f)], el] (fun (v_ : Option Value) (cs_ : List va_W) => v_ = none ∧ cs_ = [[(a, ob 15 [.int (m0 + 1), .ref arr, .int (nI (n - 1))])], [(arr, qA (aC E 2) cap (va_up f (n - 1) none))], el]) := by
  refine Mt.of (by decide) (Nat.le_of_ble_eq_true rfl) (fun X hX hR hin => ?_)
  refine g_lv1 (lv1 := [(0, .ref a), (1, .ref arr), (2, .int (nI k))]) rfl ?_
  refine g_aload_n hX (pc := 0) dJ2_fastRemove_0 0 rfl ?_
  refine g_dup hX (pc := 1) dJ2_fastRemove_1 rfl ?_
  refine g_getU hX (pc := 2) fcJ2 0 rfl 0 (by decide) q147 q146 (v := .int m0) rfl dJ2_fastRemove_2 ?_
  refine g_iconst hX (pc := 5) (v := 1) dJ2_fastRemove_5 (by decide) ?_
  refine g_iadd hX (pc := 6) dJ2_fastRemove_6 ?_
  refine g_putU hX (pc := 7) fcJ2 0 (fs1 := [.int (m0 + 1), .ref arr, .int (nI n)]) (cs1 := [[(a, ob 15 [.int (m0 + 1), .ref arr, .int (nI n)])], [(arr, qA (aC E 2) cap f)], el]) rfl 0 (by decide) q147 q146 rfl rfl rfl (Nat.le_of_ble_eq_true rfl) rfl rfl dJ2_fastRemove_7 ?_
  refine g_aload_n hX (pc := 10) dJ2_fastRemove_10 0 rfl ?_
  refine g_get hX (pc := 11) fcJ2 0 rfl 2 (by decide) q143 rfl (v := .int (nI n)) rfl dJ2_fastRemove_11 ?_
  refine g_iconst hX (pc := 14) (v := 1) dJ2_fastRemove_14 (by decide) ?_
  refine g_isub hX (pc := 15) dJ2_fastRemove_15 ?_
  refine g_eqi (nI (n - 1)) (pk_sub (b := 1) (by omega)) ?_
  refine g_dup hX (pc := 16) dJ2_fastRemove_16 rfl ?_
  refine g_istore_n hX (pc := 17) (lv1 := [(3, .int (nI (n - 1))), (0, .ref a), (1, .ref arr), (2, .int (nI k))]) dJ2_fastRemove_17 (by decide) rfl ?_
  refine g_iload_n hX (pc := 18) dJ2_fastRemove_18 3 rfl ?_
  refine g_icmp_le hX (pc := 19) (tgt := 34) dJ2_fastRemove_19 rfl (fun c1 => ?_) (fun c1 => ?_)
  · refine g_aload_n hX (pc := 34) dJ2_fastRemove_34 2 rfl ?_
    refine g_aload_n hX (pc := 35) dJ2_fastRemove_35 1 rfl ?_
    refine g_iload_n hX (pc := 36) dJ2_fastRemove_36 0 rfl ?_
    refine g_dup_x1 hX (pc := 37) dJ2_fastRemove_37 rfl rfl ?_
    refine g_put hX (pc := 38) fcJ2 0 (fs1 := [.int (m0 + 1), .ref arr, .int (nI (n - 1))]) (cs1 := [[(a, ob 15 [.int (m0 + 1), .ref arr, .int (nI (n - 1))])], [(arr, qA (aC E 2) cap f)], el]) rfl 2 (by decide) q143 rfl rfl rfl rfl (Nat.le_of_ble_eq_true rfl) rfl rfl dJ2_fastRemove_38 ?_
    refine g_null hX (pc := 41) dJ2_fastRemove_41 ?_
    refine g_aastN hX (pc := 42) (t0 := 2) rfl (f1 := (va_up f (n - 1) none)) (cs1 := [[(a, ob 15 [.int (m0 + 1), .ref arr, .int (nI (n - 1))])], [(arr, qA (aC E 2) cap (va_up f (n - 1) none))], el]) 1 rfl (vp_in_nI (by omega) (by omega)) (by rw [nI_clamp (by omega)]) rfl dJ2_fastRemove_42 ?_
    refine g_vret hX (pc := 43) hR ?_ (by omega) (by omega) dJ2_fastRemove_43
    exact ⟨rfl, rfl⟩
  · exact absurd (nI_le (by omega) (by omega)) c1

set_option maxHeartbeats 4000000 in
theorem mt_AL_remove (E : EE) (l : Launch) (a : Nat) (as : List Nat) (w : va_W) (k : Nat) (y : Nat) (el : va_W) (hw : AL E a as w) (hk : (as[k]? = some y)) (hok : (okL E el as)) : Mt E l yJ2_remove cJ2_remove 4 (some (.object "java/lang/Object")) 3 0 0 63 [.ref a, .int (nI k)] [w, el] (fun (v_ : Option Value) (cs_ : List va_W) => ∃ (w1 : va_W), AL E a (List.eraseIdx as k) w1 ∧ v_ = some (.ref y) ∧ cs_ = [w1, el]) := by
  obtain ⟨m0, arr, cap, f, h1, h2, h3, hc⟩ := hw
  have hkl : k < as.length := (List.getElem?_eq_some_iff.mp hk).1
  have hle : (List.eraseIdx as k).length = as.length - 1 := by rw [List.length_eraseIdx, if_pos hkl]
  have he : nI (List.eraseIdx as k).length = nI (as.length - 1) := by rw [hle]
  have hkk : ∀ i, i < as.length → ∀ y, f i = some y → okE E el y := fun i hi y hy => hok.get (i := i) (by rw [← h3 i hi]; exact hy)
  have hc3 : (k + 1 < as.length ∧ 1 ≤ cap ∧ w = [(a, ob 15 [.int m0, .ref arr, .int (nI as.length)]), (arr, qA (aC E 2) cap f)]) ∨ (k + 1 = as.length ∧ 1 ≤ cap ∧ w = [(a, ob 15 [.int m0, .ref arr, .int (nI as.length)]), (arr, qA (aC E 2) cap f)]) := by
    rcases hc with ⟨h4, h5⟩ | ⟨h4, h5, h6⟩
    · rcases Nat.lt_or_ge (k + 1) as.length with h6 | h6
      · exact Or.inl ⟨h6, h4, h5⟩
      · exact Or.inr ⟨by omega, h4, h5⟩
    · omega
  rcases hc3 with ⟨h5, h4, rfl⟩ | ⟨h5, h4, rfl⟩
  · refine Mt.of (by decide) (Nat.le_of_ble_eq_true rfl) (fun X hX hR hin => ?_)
    refine g_lv1 (lv1 := [(0, .ref a), (1, .int (nI k))]) rfl ?_
    refine g_fl (cs1 := [[(a, ob 15 [.int m0, .ref arr, .int (nI as.length)])], [(arr, qA (aC E 2) cap f)], el]) rfl ?_
    refine g_iload_n hX (pc := 0) dJ2_remove_0 1 rfl ?_
    refine g_aload_n hX (pc := 1) dJ2_remove_1 0 rfl ?_
    refine g_get hX (pc := 2) fcJ2 0 rfl 2 (by decide) q143 rfl (v := .int (nI as.length)) rfl dJ2_remove_2 ?_
    refine g_callS hX (pc := 5) kJ15_checkIndex (mt_Obj_checkIndex E l (nI k) (nI as.length) (nI_pos (by omega)) (nI_lt hkl (by omega))) q211 [] rfl rfl rfl (Nat.le_of_ble_eq_true rfl) (Nat.le_of_ble_eq_true rfl) (Nat.le_of_ble_eq_true rfl) (by omega) (by omega) dJ2_remove_5 (fun v w1 hp => ?_)
    obtain ⟨rfl, rfl⟩ := hp
    refine g_nrm (cs1 := [[(a, ob 15 [.int m0, .ref arr, .int (nI as.length)])], [(arr, qA (aC E 2) cap f)], el]) (st1 := [.int (nI k)]) rfl rfl ?_
    refine g_pop hX (pc := 8) dJ2_remove_8 rfl ?_
    refine g_aload_n hX (pc := 9) dJ2_remove_9 0 rfl ?_
    refine g_get hX (pc := 10) fcJ2 0 rfl 1 (by decide) q140 rfl (v := .ref arr) rfl dJ2_remove_10 ?_
    refine g_astore_n hX (pc := 13) (lv1 := [(2, .ref arr), (0, .ref a), (1, .int (nI k))]) dJ2_remove_13 (by decide) rfl ?_
    refine g_aload_n hX (pc := 14) dJ2_remove_14 0 rfl ?_
    refine g_iload_n hX (pc := 15) dJ2_remove_15 2 rfl ?_
    refine g_aald hX (pc := 16) (t0 := 2) rfl (sp_mem (i := 1) rfl) (y := y) (vp_in_nI (by omega) (by omega)) (by rw [nI_clamp (by omega), h3 k hkl]; exact hk) dJ2_remove_16 ?_
    refine g_astore_n hX (pc := 17) (lv1 := [(3, .ref y), (2, .ref arr), (0, .ref a), (1, .int (nI k))]) dJ2_remove_17 (by decide) rfl ?_
    refine g_aload_n hX (pc := 18) dJ2_remove_18 2 rfl ?_
    refine g_aload_n hX (pc := 19) dJ2_remove_19 1 rfl ?_
    refine g_iload_n hX (pc := 20) dJ2_remove_20 3 rfl ?_
    refine g_callV hX (pc := 21) kJ2_fastRemove (mt_fastRemove_a E l a m0 arr as.length cap f k el (h5) (h1) (h2) (hkk)) q691 fcJ2 (sp_mem (i := 0) rfl) [0, 0, 0] rfl rfl rfl (Nat.le_of_ble_eq_true rfl) (Nat.le_of_ble_eq_true rfl) (Nat.le_of_ble_eq_true rfl) (by omega) (by omega) dJ2_remove_21 (fun v w1 hp => ?_)
    obtain ⟨rfl, rfl⟩ := hp
    refine g_nrm (cs1 := [[(a, ob 15 [.int (m0 + 1), .ref arr, .int (nI (as.length - 1))])], [(arr, qA (aC E 2) cap (va_up (va_cpy f f (k + 1) k (as.length - 1 - k)) (as.length - 1) none))], el]) (st1 := []) rfl rfl ?_
    refine g_aload_n hX (pc := 24) dJ2_remove_24 0 rfl ?_
    refine g_cs (cs1 := [[(a, ob 15 [.int (m0 + 1), .ref arr, .int (nI (List.length (List.eraseIdx as k)))])], [(arr, qA (aC E 2) cap (va_up (va_cpy f f (k + 1) k (as.length - 1 - k)) (as.length - 1) none))], el]) (by rw [he]) ?_
    refine g_pk [0, 0] rfl ?_
    refine g_fl (cs1 := [[(a, ob 15 [.int (m0 + 1), .ref arr, .int (nI (List.length (List.eraseIdx as k)))]), (arr, qA (aC E 2) cap (va_up (va_cpy f f (k + 1) k (as.length - 1 - k)) (as.length - 1) none))], el]) rfl ?_
    refine g_aret hX (pc := 25) hR (by first | exact Or.inl ⟨_, rfl⟩ | exact Or.inr ⟨_, rfl⟩) ?_ (by omega) (by omega) dJ2_remove_25
    exact ⟨_, ⟨m0 + 1, _, cap, _, by omega, h2, al_era hkl h3, Or.inl ⟨by omega, rfl⟩⟩, rfl, rfl⟩
  · refine Mt.of (by decide) (Nat.le_of_ble_eq_true rfl) (fun X hX hR hin => ?_)
    refine g_lv1 (lv1 := [(0, .ref a), (1, .int (nI k))]) rfl ?_
    refine g_fl (cs1 := [[(a, ob 15 [.int m0, .ref arr, .int (nI as.length)])], [(arr, qA (aC E 2) cap f)], el]) rfl ?_
    refine g_iload_n hX (pc := 0) dJ2_remove_0 1 rfl ?_
    refine g_aload_n hX (pc := 1) dJ2_remove_1 0 rfl ?_
    refine g_get hX (pc := 2) fcJ2 0 rfl 2 (by decide) q143 rfl (v := .int (nI as.length)) rfl dJ2_remove_2 ?_
    refine g_callS hX (pc := 5) kJ15_checkIndex (mt_Obj_checkIndex E l (nI k) (nI as.length) (nI_pos (by omega)) (nI_lt hkl (by omega))) q211 [] rfl rfl rfl (Nat.le_of_ble_eq_true rfl) (Nat.le_of_ble_eq_true rfl) (Nat.le_of_ble_eq_true rfl) (by omega) (by omega) dJ2_remove_5 (fun v w1 hp => ?_)
    obtain ⟨rfl, rfl⟩ := hp
    refine g_nrm (cs1 := [[(a, ob 15 [.int m0, .ref arr, .int (nI as.length)])], [(arr, qA (aC E 2) cap f)], el]) (st1 := [.int (nI k)]) rfl rfl ?_
    refine g_pop hX (pc := 8) dJ2_remove_8 rfl ?_
    refine g_aload_n hX (pc := 9) dJ2_remove_9 0 rfl ?_
    refine g_get hX (pc := 10) fcJ2 0 rfl 1 (by decide) q140 rfl (v := .ref arr) rfl dJ2_remove_10 ?_
    refine g_astore_n hX (pc := 13) (lv1 := [(2, .ref arr), (0, .ref a), (1, .int (nI k))]) dJ2_remove_13 (by decide) rfl ?_
    refine g_aload_n hX (pc := 14) dJ2_remove_14 0 rfl ?_
    refine g_iload_n hX (pc := 15) dJ2_remove_15 2 rfl ?_
    refine g_aald hX (pc := 16) (t0 := 2) rfl (sp_mem (i := 1) rfl) (y := y) (vp_in_nI (by omega) (by omega)) (by rw [nI_clamp (by omega), h3 k hkl]; exact hk) dJ2_remove_16 ?_
    refine g_astore_n hX (pc := 17) (lv1 := [(3, .ref y), (2, .ref arr), (0, .ref a), (1, .int (nI k))]) dJ2_remove_17 (by decide) rfl ?_
    refine g_aload_n hX (pc := 18) dJ2_remove_18 2 rfl ?_
    refine g_aload_n hX (pc := 19) dJ2_remove_19 1 rfl ?_
    refine g_iload_n hX (pc := 20) dJ2_remove_20 3 rfl ?_
    refine g_callV hX (pc := 21) kJ2_fastRemove (mt_fastRemove_b E l a m0 arr as.length cap f k el (h5) (h1) (h2)) q691 fcJ2 (sp_mem (i := 0) rfl) [0, 0, 0] rfl rfl rfl (Nat.le_of_ble_eq_true rfl) (Nat.le_of_ble_eq_true rfl) (Nat.le_of_ble_eq_true rfl) (by omega) (by omega) dJ2_remove_21 (fun v w1 hp => ?_)
    obtain ⟨rfl, rfl⟩ := hp
    refine g_nrm (cs1 := [[(a, ob 15 [.int (m0 + 1), .ref arr, .int (nI (as.length - 1))])], [(arr, qA (aC E 2) cap (va_up f (as.length - 1) none))], el]) (st1 := []) rfl rfl ?_
    refine g_aload_n hX (pc := 24) dJ2_remove_24 0 rfl ?_
    refine g_cs (cs1 := [[(a, ob 15 [.int (m0 + 1), .ref arr, .int (nI (List.length (List.eraseIdx as k)))])], [(arr, qA (aC E 2) cap (va_up f (as.length - 1) none))], el]) (by rw [he]) ?_
    refine g_pk [0, 0] rfl ?_
    refine g_fl (cs1 := [[(a, ob 15 [.int (m0 + 1), .ref arr, .int (nI (List.length (List.eraseIdx as k)))]), (arr, qA (aC E 2) cap (va_up f (as.length - 1) none))], el]) rfl ?_
    refine g_aret hX (pc := 25) hR (by first | exact Or.inl ⟨_, rfl⟩ | exact Or.inr ⟨_, rfl⟩) ?_ (by omega) (by omega) dJ2_remove_25
    exact ⟨_, ⟨m0 + 1, _, cap, _, by omega, h2, al_era1 h5 h3, Or.inl ⟨by omega, rfl⟩⟩, rfl, rfl⟩

set_option maxHeartbeats 4000000 in
theorem mt_AL_toArray (E : EE) (l : Launch) (a : Nat) (as : List Nat) (w : va_W) (el : va_W) (hw : AL E a as w) (hok : (okL E el as)) : Mt E l yJ2_toArray cJ2_toArray 1 (some (.array (.object "java/lang/Object"))) 3 1 (List.length as) 84 [.ref a] [w, el] (fun (v_ : Option Value) (cs_ : List va_W) => ∃ (q : Nat) (g : Nat → Option Nat), (∀ i, i < as.length → g i = as[i]?) ∧ v_ = some (.ref q) ∧ cs_ = [[(q, qA (aC E 2) (List.length as) g)], w, el]) := by
  obtain ⟨m0, arr, cap, f, h1, h2, h3, hc⟩ := hw
  have hkk : ∀ i, i < as.length → ∀ y, f i = some y → okE E el y := fun i hi y hy => hok.get (i := i) (by rw [← h3 i hi]; exact hy)
  rcases hc with ⟨h4, rfl⟩ | ⟨rfl, harr, rfl⟩
  · refine Mt.of (by decide) (Nat.le_of_ble_eq_true rfl) (fun X hX hR hin => ?_)
    refine g_lv1 (lv1 := [(0, .ref a)]) rfl ?_
    refine g_fl (cs1 := [[(a, ob 15 [.int m0, .ref arr, .int (nI as.length)])], [(arr, qA (aC E 2) cap f)], el]) rfl ?_
    refine g_aload_n hX (pc := 0) dJ2_toArray_0 0 rfl ?_
    refine g_get hX (pc := 1) fcJ2 0 rfl 1 (by decide) q140 rfl (v := .ref arr) rfl dJ2_toArray_1 ?_
    refine g_aload_n hX (pc := 4) dJ2_toArray_4 0 rfl ?_
    refine g_get hX (pc := 5) fcJ2 0 rfl 2 (by decide) q143 rfl (v := .int (nI as.length)) rfl dJ2_toArray_5 ?_
    refine g_callS hX (pc := 8) kJ9_copyOf_2 (mt_copyOf E l arr cap f as.length el (by omega) (by omega) (fun i hi y hy => hkk i (by omega) y hy)) q640 [1, 1] rfl rfl rfl (Nat.le_of_ble_eq_true rfl) (Nat.le_of_ble_eq_true rfl) (Nat.le_of_ble_eq_true rfl) (by omega) (by omega) dJ2_toArray_8 (fun v w1 hp => ?_)
    obtain ⟨q1, rfl, rfl⟩ := hp
    refine g_nrm (cs1 := [[(q1, qA (aC E 2) as.length (va_cpy f (fun _ => none) 0 0 (min cap as.length)))], [(arr, qA (aC E 2) cap f)], el, [(a, ob 15 [.int m0, .ref arr, .int (nI as.length)])]]) (st1 := [.ref q1]) rfl rfl ?_
    refine g_pk [3, 1] rfl ?_
    refine g_fl (cs1 := [[(a, ob 15 [.int m0, .ref arr, .int (nI as.length)]), (arr, qA (aC E 2) cap f)], [(q1, qA (aC E 2) as.length (va_cpy f (fun _ => none) 0 0 (min cap as.length)))], el]) rfl ?_
    refine g_pk [1, 0, 0] rfl ?_
    refine g_cs (cs1 := [[(q1, qA (aC E 2) as.length (va_cpy f (fun _ => none) 0 0 (min cap as.length)))], [(a, ob 15 [.int m0, .ref arr, .int (nI as.length)]), (arr, qA (aC E 2) cap f)], el]) rfl ?_
    refine g_aret hX (pc := 11) hR (by first | exact Or.inl ⟨_, rfl⟩ | exact Or.inr ⟨_, rfl⟩) ?_ (by omega) (by omega) dJ2_toArray_11
    exact ⟨_, _, al_cpy (Nat.le_refl _) h3, rfl, by rw [Nat.min_eq_right h1]⟩
  · refine Mt.of (by decide) (Nat.le_of_ble_eq_true rfl) (fun X hX hR hin => ?_)
    refine g_lv1 (lv1 := [(0, .ref a)]) rfl ?_
    refine g_fl (cs1 := [[(a, ob 15 [.int m0, .ref arr, .int (nI as.length)])], el]) rfl ?_
    refine g_aload_n hX (pc := 0) dJ2_toArray_0 0 rfl ?_
    refine g_get hX (pc := 1) fcJ2 0 rfl 1 (by decide) q140 rfl (v := .ref arr) rfl dJ2_toArray_1 ?_
    refine g_aload_n hX (pc := 4) dJ2_toArray_4 0 rfl ?_
    refine g_get hX (pc := 5) fcJ2 0 rfl 2 (by decide) q143 rfl (v := .int (nI as.length)) rfl dJ2_toArray_5 ?_
    refine g_callS hX (pc := 8) kJ9_copyOf_2 (mt_copyOfs E l arr as.length (harr) (by omega)) q640 [] rfl rfl rfl (Nat.le_of_ble_eq_true rfl) (Nat.le_of_ble_eq_true rfl) (Nat.le_of_ble_eq_true rfl) (by omega) (by omega) dJ2_toArray_8 (fun v w1 hp => ?_)
    obtain ⟨q1, rfl, rfl⟩ := hp
    refine g_nrm (cs1 := [[(q1, qA (aC E 2) as.length (va_cpy (fun _ => none) (fun _ => none) 0 0 0))], [(a, ob 15 [.int m0, .ref arr, .int (nI as.length)])], el]) (st1 := [.ref q1]) rfl rfl ?_
    refine g_pk [1] rfl ?_
    refine g_fl (cs1 := [[(a, ob 15 [.int m0, .ref arr, .int (nI as.length)])], [(q1, qA (aC E 2) as.length (va_cpy (fun _ => none) (fun _ => none) 0 0 0))], el]) rfl ?_
    refine g_pk [1, 0, 0] rfl ?_
    refine g_cs (cs1 := [[(q1, qA (aC E 2) as.length (va_cpy (fun _ => none) (fun _ => none) 0 0 0))], [(a, ob 15 [.int m0, .ref arr, .int (nI as.length)])], el]) rfl ?_
    refine g_aret hX (pc := 11) hR (by first | exact Or.inl ⟨_, rfl⟩ | exact Or.inr ⟨_, rfl⟩) ?_ (by omega) (by omega) dJ2_toArray_11
    exact ⟨_, _, fun i hi => absurd hi (by omega), rfl, rfl⟩

set_option maxHeartbeats 4000000 in
theorem mt_Itr_init (E : EE) (l : Launch) (t : Nat) (a : Nat) (m0 : Int32) (arr : Nat) (n : Int32) : Mt E l yJ19_init cJ19_init 2 none 1 0 0 12 [.ref t, .ref a] [[(t, ob 16 [.int 0, .int 0, .int 0, .null])], [(a, ob 15 [.int m0, .ref arr, .int n])]] (fun (v_ : Option Value) (cs_ : List va_W) => v_ = none ∧ cs_ = [[(t, ob 16 [.int 0, .int (-1), .int m0, .ref a])], [(a, ob 15 [.int m0, .ref arr, .int n])]]) := by
  refine Mt.of (by decide) (Nat.le_of_ble_eq_true rfl) (fun X hX hR hin => ?_)
  refine g_lv1 (lv1 := [(0, .ref t), (1, .ref a)]) rfl ?_
  refine g_aload_n hX (pc := 0) dJ19_init_0 0 rfl ?_
  refine g_aload_n hX (pc := 1) dJ19_init_1 1 rfl ?_
  refine g_putF hX (pc := 2) fcJ19 0 (fs1 := [.int 0, .int 0, .int 0, .ref a]) (cs1 := [[(t, ob 16 [.int 0, .int 0, .int 0, .ref a])], [(a, ob 15 [.int m0, .ref arr, .int n])]]) rfl 3 (by decide) q2065 rfl rfl hin rfl rfl rfl (Nat.le_of_ble_eq_true rfl) rfl rfl dJ19_init_2 ?_
  refine g_aload_n hX (pc := 5) dJ19_init_5 0 rfl ?_
  refine g_objInit hX (pc := 6) q2061 q_oi1 q_oi2 (Nat.le_of_ble_eq_true rfl) (Nat.le_of_ble_eq_true rfl) dJ19_init_6 ?_
  refine g_aload_n hX (pc := 9) dJ19_init_9 0 rfl ?_
  refine g_iconst hX (pc := 10) (v := (-1)) dJ19_init_10 (by decide) ?_
  refine g_put hX (pc := 11) fcJ19 0 (fs1 := [.int 0, .int (-1), .int 0, .ref a]) (cs1 := [[(t, ob 16 [.int 0, .int (-1), .int 0, .ref a])], [(a, ob 15 [.int m0, .ref arr, .int n])]]) rfl 1 (by decide) q2063 rfl rfl rfl rfl (Nat.le_of_ble_eq_true rfl) rfl rfl dJ19_init_11 ?_
  refine g_aload_n hX (pc := 14) dJ19_init_14 0 rfl ?_
  refine g_aload_n hX (pc := 15) dJ19_init_15 0 rfl ?_
  refine g_get hX (pc := 16) fcJ19 0 rfl 3 (by decide) q2065 rfl (v := .ref a) rfl dJ19_init_16 ?_
  refine g_getU hX (pc := 19) fcJ2 1 rfl 0 (by decide) q145 q146 (v := .int m0) rfl dJ19_init_19 ?_
  refine g_put hX (pc := 22) fcJ19 0 (fs1 := [.int 0, .int (-1), .int m0, .ref a]) (cs1 := [[(t, ob 16 [.int 0, .int (-1), .int m0, .ref a])], [(a, ob 15 [.int m0, .ref arr, .int n])]]) rfl 2 (by decide) q2064 rfl rfl rfl rfl (Nat.le_of_ble_eq_true rfl) rfl rfl dJ19_init_22 ?_
  refine g_vret hX (pc := 25) hR ?_ (Nat.le_of_ble_eq_true rfl) (Nat.le_of_ble_eq_true rfl) dJ19_init_25
  exact ⟨rfl, rfl⟩

set_option maxHeartbeats 4000000 in
theorem mt_AL_iterator (E : EE) (l : Launch) (a : Nat) (m0 : Int32) (arr : Nat) (as : List Nat) (w : va_W) (hw : AB E a m0 arr as w) : Mt E l yJ2_iterator cJ2_iterator 1 (some (.object "java/util/Iterator")) 2 1 4 33 [.ref a] [w] (fun (v_ : Option Value) (cs_ : List va_W) => ∃ (q : Nat), v_ = some (.ref q) ∧ cs_ = [[(q, ob 16 [.int 0, .int (-1), .int m0, .ref a])], w]) := by
  obtain ⟨cap, f, h1, h2, h3, hc⟩ := hw
  rcases hc with ⟨h4, rfl⟩ | ⟨rfl, harr, rfl⟩
  · refine Mt.of (by decide) (Nat.le_of_ble_eq_true rfl) (fun X hX hR hin => ?_)
    refine g_lv1 (lv1 := [(0, .ref a)]) rfl ?_
    refine g_fl (cs1 := [[(a, ob 15 [.int m0, .ref arr, .int (nI as.length)])], [(arr, qA (aC E 2) cap f)]]) rfl ?_
    refine g_new hX (pc := 0) fcJ19 q2056 q2057 q105 (fs := [.int 0, .int 0, .int 0, .null]) (fun j hj => by match j, hj with | 0, _ => rfl | 1, _ => rfl | 2, _ => rfl | 3, _ => rfl | j + 4, h => exact absurd h (by omega)) (Nat.le_of_ble_eq_true rfl) (Nat.le_of_ble_eq_true rfl) dJ2_iterator_0 (fun q1 => ?_)
    refine g_dup hX (pc := 3) dJ2_iterator_3 rfl ?_
    refine g_aload_n hX (pc := 4) dJ2_iterator_4 0 rfl ?_
    refine g_callI hX (pc := 5) kJ19_init (mt_Itr_init E l q1 a m0 arr (nI as.length)) q2058 [0, 0] rfl rfl rfl (Nat.le_of_ble_eq_true rfl) (Nat.le_of_ble_eq_true rfl) (Nat.le_of_ble_eq_true rfl) (Nat.le_of_ble_eq_true rfl) (Nat.le_of_ble_eq_true rfl) dJ2_iterator_5 (fun v w1 hp => ?_)
    obtain ⟨rfl, rfl⟩ := hp
    refine g_nrm (cs1 := [[(q1, ob 16 [.int 0, .int (-1), .int m0, .ref a])], [(a, ob 15 [.int m0, .ref arr, .int (nI as.length)])], [(arr, qA (aC E 2) cap f)]]) (st1 := [.ref q1]) rfl rfl ?_
    refine g_pk [1, 1] rfl ?_
    refine g_fl (cs1 := [[(a, ob 15 [.int m0, .ref arr, .int (nI as.length)]), (arr, qA (aC E 2) cap f)], [(q1, ob 16 [.int 0, .int (-1), .int m0, .ref a])]]) rfl ?_
    refine g_pk [1, 0] rfl ?_
    refine g_cs (cs1 := [[(q1, ob 16 [.int 0, .int (-1), .int m0, .ref a])], [(a, ob 15 [.int m0, .ref arr, .int (nI as.length)]), (arr, qA (aC E 2) cap f)]]) rfl ?_
    refine g_aret hX (pc := 8) hR (by first | exact Or.inl ⟨_, rfl⟩ | exact Or.inr ⟨_, rfl⟩) ?_ (Nat.le_of_ble_eq_true rfl) (Nat.le_of_ble_eq_true rfl) dJ2_iterator_8
    exact ⟨_, rfl, rfl⟩
  · refine Mt.of (by decide) (Nat.le_of_ble_eq_true rfl) (fun X hX hR hin => ?_)
    refine g_lv1 (lv1 := [(0, .ref a)]) rfl ?_
    refine g_fl (cs1 := [[(a, ob 15 [.int m0, .ref arr, .int (nI as.length)])]]) rfl ?_
    refine g_new hX (pc := 0) fcJ19 q2056 q2057 q105 (fs := [.int 0, .int 0, .int 0, .null]) (fun j hj => by match j, hj with | 0, _ => rfl | 1, _ => rfl | 2, _ => rfl | 3, _ => rfl | j + 4, h => exact absurd h (by omega)) (Nat.le_of_ble_eq_true rfl) (Nat.le_of_ble_eq_true rfl) dJ2_iterator_0 (fun q1 => ?_)
    refine g_dup hX (pc := 3) dJ2_iterator_3 rfl ?_
    refine g_aload_n hX (pc := 4) dJ2_iterator_4 0 rfl ?_
    refine g_callI hX (pc := 5) kJ19_init (mt_Itr_init E l q1 a m0 arr (nI as.length)) q2058 [0, 0] rfl rfl rfl (Nat.le_of_ble_eq_true rfl) (Nat.le_of_ble_eq_true rfl) (Nat.le_of_ble_eq_true rfl) (Nat.le_of_ble_eq_true rfl) (Nat.le_of_ble_eq_true rfl) dJ2_iterator_5 (fun v w1 hp => ?_)
    obtain ⟨rfl, rfl⟩ := hp
    refine g_nrm (cs1 := [[(q1, ob 16 [.int 0, .int (-1), .int m0, .ref a])], [(a, ob 15 [.int m0, .ref arr, .int (nI as.length)])]]) (st1 := [.ref q1]) rfl rfl ?_
    refine g_pk [1] rfl ?_
    refine g_fl (cs1 := [[(a, ob 15 [.int m0, .ref arr, .int (nI as.length)])], [(q1, ob 16 [.int 0, .int (-1), .int m0, .ref a])]]) rfl ?_
    refine g_pk [1, 0] rfl ?_
    refine g_cs (cs1 := [[(q1, ob 16 [.int 0, .int (-1), .int m0, .ref a])], [(a, ob 15 [.int m0, .ref arr, .int (nI as.length)])]]) rfl ?_
    refine g_aret hX (pc := 8) hR (by first | exact Or.inl ⟨_, rfl⟩ | exact Or.inr ⟨_, rfl⟩) ?_ (Nat.le_of_ble_eq_true rfl) (Nat.le_of_ble_eq_true rfl) dJ2_iterator_8
    exact ⟨_, rfl, rfl⟩

set_option maxHeartbeats 4000000 in
theorem mt_Itr_hasNext (E : EE) (l : Launch) (t : Nat) (c : Nat) (lr : Int32) (a : Nat) (m0 : Int32) (arr : Nat) (as : List Nat) (w : va_W) (hw : AB E a m0 arr as w) (hc0 : (c ≤ 100000)) (hb : (as.length ≤ 100000)) : Mt E l yJ19_hasNext cJ19_hasNext 1 (some .boolean) 1 0 0 1 [.ref t] [[(t, ob 16 [.int (nI c), .int lr, .int m0, .ref a])], w] (fun (v_ : Option Value) (cs_ : List va_W) => v_ = some (.int (if c = List.length as then 0 else 1)) ∧ cs_ = [[(t, ob 16 [.int (nI c), .int lr, .int m0, .ref a])], w]) := by
  obtain ⟨cap, f, h1, h2, h3, hc⟩ := hw
  have he : (nI c = nI as.length) ↔ c = as.length := nI_eq (by omega) (by omega)
  rcases hc with ⟨h4, rfl⟩ | ⟨rfl, harr, rfl⟩
  · refine Mt.of (by decide) (Nat.le_of_ble_eq_true rfl) (fun X hX hR hin => ?_)
    refine g_lv1 (lv1 := [(0, .ref t)]) rfl ?_
    refine g_fl (cs1 := [[(t, ob 16 [.int (nI c), .int lr, .int m0, .ref a])], [(a, ob 15 [.int m0, .ref arr, .int (nI as.length)])], [(arr, qA (aC E 2) cap f)]]) rfl ?_
    refine g_aload_n hX (pc := 0) dJ19_hasNext_0 0 rfl ?_
    refine g_get hX (pc := 1) fcJ19 0 rfl 0 (by decide) q2062 rfl (v := .int (nI c)) rfl dJ19_hasNext_1 ?_
    refine g_aload_n hX (pc := 4) dJ19_hasNext_4 0 rfl ?_
    refine g_get hX (pc := 5) fcJ19 0 rfl 3 (by decide) q2065 rfl (v := .ref a) rfl dJ19_hasNext_5 ?_
    refine g_getN hX (pc := 8) fcJ2 1 rfl 2 (by decide) q142 rfl (v := .int (nI as.length)) rfl dJ19_hasNext_8 ?_
    refine g_val (v := if (nI c) = (nI as.length) then 0 else 1) (pcJ := 19) (st1 := []) (fun hj1 => ?_) ?_
    · refine g_icmp_eq hX (pc := 11) (tgt := 18) dJ19_hasNext_11 rfl (fun c2 => ?_) (fun c2 => ?_)
      · refine g_iconst hX (pc := 18) (v := 0) dJ19_hasNext_18 (by decide) ?_
        exact hj1 _ (by rw [if_pos c2])
      · refine g_iconst hX (pc := 14) (v := 1) dJ19_hasNext_14 (by decide) ?_
        refine g_goto hX (pc := 15) (tgt := 19) dJ19_hasNext_15 rfl ?_
        exact hj1 _ (by rw [if_neg c2])
    refine g_pk [1, 1] rfl ?_
    refine g_fl (cs1 := [[(a, ob 15 [.int m0, .ref arr, .int (nI as.length)]), (arr, qA (aC E 2) cap f)], [(t, ob 16 [.int (nI c), .int lr, .int m0, .ref a])]]) rfl ?_
    refine g_pk [1, 0] rfl ?_
    refine g_cs (cs1 := [[(t, ob 16 [.int (nI c), .int lr, .int m0, .ref a])], [(a, ob 15 [.int m0, .ref arr, .int (nI as.length)]), (arr, qA (aC E 2) cap f)]]) rfl ?_
    refine g_zret hX (pc := 19) hR (nz01 _) ?_ (Nat.le_of_ble_eq_true rfl) (Nat.le_of_ble_eq_true rfl) dJ19_hasNext_19
    exact ⟨by simp only [he], rfl⟩
  · refine Mt.of (by decide) (Nat.le_of_ble_eq_true rfl) (fun X hX hR hin => ?_)
    refine g_lv1 (lv1 := [(0, .ref t)]) rfl ?_
    refine g_fl (cs1 := [[(t, ob 16 [.int (nI c), .int lr, .int m0, .ref a])], [(a, ob 15 [.int m0, .ref arr, .int (nI as.length)])]]) rfl ?_
    refine g_aload_n hX (pc := 0) dJ19_hasNext_0 0 rfl ?_
    refine g_get hX (pc := 1) fcJ19 0 rfl 0 (by decide) q2062 rfl (v := .int (nI c)) rfl dJ19_hasNext_1 ?_
    refine g_aload_n hX (pc := 4) dJ19_hasNext_4 0 rfl ?_
    refine g_get hX (pc := 5) fcJ19 0 rfl 3 (by decide) q2065 rfl (v := .ref a) rfl dJ19_hasNext_5 ?_
    refine g_getN hX (pc := 8) fcJ2 1 rfl 2 (by decide) q142 rfl (v := .int (nI as.length)) rfl dJ19_hasNext_8 ?_
    refine g_val (v := if (nI c) = (nI as.length) then 0 else 1) (pcJ := 19) (st1 := []) (fun hj1 => ?_) ?_
    · refine g_icmp_eq hX (pc := 11) (tgt := 18) dJ19_hasNext_11 rfl (fun c2 => ?_) (fun c2 => ?_)
      · refine g_iconst hX (pc := 18) (v := 0) dJ19_hasNext_18 (by decide) ?_
        exact hj1 _ (by rw [if_pos c2])
      · refine g_iconst hX (pc := 14) (v := 1) dJ19_hasNext_14 (by decide) ?_
        refine g_goto hX (pc := 15) (tgt := 19) dJ19_hasNext_15 rfl ?_
        exact hj1 _ (by rw [if_neg c2])
    refine g_pk [1] rfl ?_
    refine g_fl (cs1 := [[(a, ob 15 [.int m0, .ref arr, .int (nI as.length)])], [(t, ob 16 [.int (nI c), .int lr, .int m0, .ref a])]]) rfl ?_
    refine g_pk [1, 0] rfl ?_
    refine g_cs (cs1 := [[(t, ob 16 [.int (nI c), .int lr, .int m0, .ref a])], [(a, ob 15 [.int m0, .ref arr, .int (nI as.length)])]]) rfl ?_
    refine g_zret hX (pc := 19) hR (nz01 _) ?_ (Nat.le_of_ble_eq_true rfl) (Nat.le_of_ble_eq_true rfl) dJ19_hasNext_19
    exact ⟨by simp only [he], rfl⟩

set_option maxHeartbeats 4000000 in
theorem mt_Itr_check (E : EE) (l : Launch) (t : Nat) (c : Int32) (lr : Int32) (a : Nat) (m0 : Int32) (arr : Nat) (n : Int32) : Mt E l yJ19_checkForComodification cJ19_checkForComodification 1 none 1 0 0 1 [.ref t] [[(t, ob 16 [.int c, .int lr, .int m0, .ref a])], [(a, ob 15 [.int m0, .ref arr, .int n])]] (fun (v_ : Option Value) (cs_ : List va_W) => v_ = none ∧ cs_ = [[(t, ob 16 [.int c, .int lr, .int m0, .ref a])], [(a, ob 15 [.int m0, .ref arr, .int n])]]) := by
  refine Mt.of (by decide) (Nat.le_of_ble_eq_true rfl) (fun X hX hR hin => ?_)
  refine g_lv1 (lv1 := [(0, .ref t)]) rfl ?_
  refine g_aload_n hX (pc := 0) dJ19_checkForComodification_0 0 rfl ?_
  refine g_get hX (pc := 1) fcJ19 0 rfl 3 (by decide) q2065 rfl (v := .ref a) rfl dJ19_checkForComodification_1 ?_
  refine g_getU hX (pc := 4) fcJ2 1 rfl 0 (by decide) q145 q146 (v := .int m0) rfl dJ19_checkForComodification_4 ?_
  refine g_aload_n hX (pc := 7) dJ19_checkForComodification_7 0 rfl ?_
  refine g_get hX (pc := 8) fcJ19 0 rfl 2 (by decide) q2064 rfl (v := .int m0) rfl dJ19_checkForComodification_8 ?_
  refine g_icmp_eq hX (pc := 11) (tgt := 22) dJ19_checkForComodification_11 rfl (fun c1 => ?_) (fun c1 => ?_)
  · refine g_vret hX (pc := 22) hR ?_ (Nat.le_of_ble_eq_true rfl) (Nat.le_of_ble_eq_true rfl) dJ19_checkForComodification_22
    exact ⟨rfl, rfl⟩
  · exact absurd rfl c1

set_option maxHeartbeats 4000000 in
theorem mt_Itr_next (E : EE) (l : Launch) (t : Nat) (c : Nat) (lr : Int32) (a : Nat) (m0 : Int32) (arr : Nat) (as : List Nat) (w : va_W) (y : Nat) (hw : AB E a m0 arr as w) (hy : (as[c]? = some y)) : Mt E l yJ19_next cJ19_next 3 (some (.object "java/lang/Object")) 2 0 0 21 [.ref t] [[(t, ob 16 [.int (nI c), .int lr, .int m0, .ref a])], w] (fun (v_ : Option Value) (cs_ : List va_W) => v_ = some (.ref y) ∧ cs_ = [[(t, ob 16 [.int (nI (c + 1)), .int (nI c), .int m0, .ref a])], w]) := by
  obtain ⟨cap, f, h1, h2, h3, hc⟩ := hw
  have hcl : c < as.length := (List.getElem?_eq_some_iff.mp hy).1
  rcases hc with ⟨h4, rfl⟩ | ⟨rfl, harr, rfl⟩
  · refine Mt.of (by decide) (Nat.le_of_ble_eq_true rfl) (fun X hX hR hin => ?_)
    refine g_lv1 (lv1 := [(0, .ref t)]) rfl ?_
    refine g_fl (cs1 := [[(t, ob 16 [.int (nI c), .int lr, .int m0, .ref a])], [(a, ob 15 [.int m0, .ref arr, .int (nI as.length)])], [(arr, qA (aC E 2) cap f)]]) rfl ?_
    refine g_aload_n hX (pc := 0) dJ19_next_0 0 rfl ?_
    refine g_callV hX (pc := 1) kJ19_checkForComodification (mt_Itr_check E l t (nI c) lr a m0 arr (nI as.length)) q2094 fcJ19 (sp_mem (i := 0) rfl) [0, 0] rfl rfl rfl (Nat.le_of_ble_eq_true rfl) (Nat.le_of_ble_eq_true rfl) (Nat.le_of_ble_eq_true rfl) (Nat.le_of_ble_eq_true rfl) (Nat.le_of_ble_eq_true rfl) dJ19_next_1 (fun v w1 hp => ?_)
    obtain ⟨rfl, rfl⟩ := hp
    refine g_nrm (cs1 := [[(t, ob 16 [.int (nI c), .int lr, .int m0, .ref a])], [(a, ob 15 [.int m0, .ref arr, .int (nI as.length)])], [(arr, qA (aC E 2) cap f)]]) (st1 := []) rfl rfl ?_
    refine g_aload_n hX (pc := 4) dJ19_next_4 0 rfl ?_
    refine g_get hX (pc := 5) fcJ19 0 rfl 0 (by decide) q2062 rfl (v := .int (nI c)) rfl dJ19_next_5 ?_
    refine g_istore_n hX (pc := 8) (lv1 := [(1, .int (nI c)), (0, .ref t)]) dJ19_next_8 (by decide) rfl ?_
    refine g_iload_n hX (pc := 9) dJ19_next_9 0 rfl ?_
    refine g_aload_n hX (pc := 10) dJ19_next_10 1 rfl ?_
    refine g_get hX (pc := 11) fcJ19 0 rfl 3 (by decide) q2065 rfl (v := .ref a) rfl dJ19_next_11 ?_
    refine g_getN hX (pc := 14) fcJ2 1 rfl 2 (by decide) q142 rfl (v := .int (nI as.length)) rfl dJ19_next_14 ?_
    refine g_icmp_lt hX (pc := 17) (tgt := 28) dJ19_next_17 rfl (fun c1 => ?_) (fun c1 => ?_)
    · refine g_aload_n hX (pc := 28) dJ19_next_28 1 rfl ?_
      refine g_get hX (pc := 29) fcJ19 0 rfl 3 (by decide) q2065 rfl (v := .ref a) rfl dJ19_next_29 ?_
      refine g_get hX (pc := 32) fcJ2 1 rfl 1 (by decide) q141 rfl (v := .ref arr) rfl dJ19_next_32 ?_
      refine g_astore_n hX (pc := 35) (lv1 := [(2, .ref arr), (1, .int (nI c)), (0, .ref t)]) dJ19_next_35 (by decide) rfl ?_
      refine g_iload_n hX (pc := 36) dJ19_next_36 1 rfl ?_
      refine g_aload_n hX (pc := 37) dJ19_next_37 0 rfl ?_
      refine g_alen hX (pc := 38) (sp_mem (i := 2) rfl) 2 rfl (v := (nI cap)) rfl dJ19_next_38 ?_
      refine g_icmp_lt hX (pc := 39) (tgt := 50) dJ19_next_39 rfl (fun c2 => ?_) (fun c2 => ?_)
      · refine g_aload_n hX (pc := 50) dJ19_next_50 2 rfl ?_
        refine g_iload_n hX (pc := 51) dJ19_next_51 1 rfl ?_
        refine g_iconst hX (pc := 52) (v := 1) dJ19_next_52 (by decide) ?_
        refine g_iadd hX (pc := 53) dJ19_next_53 ?_
        refine g_eqi (nI (c + 1)) (nI_1 c) ?_
        refine g_put hX (pc := 54) fcJ19 0 (fs1 := [.int (nI (c + 1)), .int lr, .int m0, .ref a]) (cs1 := [[(t, ob 16 [.int (nI (c + 1)), .int lr, .int m0, .ref a])], [(a, ob 15 [.int m0, .ref arr, .int (nI as.length)])], [(arr, qA (aC E 2) cap f)]]) rfl 0 (by decide) q2062 rfl rfl rfl rfl (Nat.le_of_ble_eq_true rfl) rfl rfl dJ19_next_54 ?_
        refine g_aload_n hX (pc := 57) dJ19_next_57 0 rfl ?_
        refine g_aload_n hX (pc := 58) dJ19_next_58 2 rfl ?_
        refine g_iload_n hX (pc := 59) dJ19_next_59 1 rfl ?_
        refine g_dup_x1 hX (pc := 60) dJ19_next_60 rfl rfl ?_
        refine g_put hX (pc := 61) fcJ19 0 (fs1 := [.int (nI (c + 1)), .int (nI c), .int m0, .ref a]) (cs1 := [[(t, ob 16 [.int (nI (c + 1)), .int (nI c), .int m0, .ref a])], [(a, ob 15 [.int m0, .ref arr, .int (nI as.length)])], [(arr, qA (aC E 2) cap f)]]) rfl 1 (by decide) q2063 rfl rfl rfl rfl (Nat.le_of_ble_eq_true rfl) rfl rfl dJ19_next_61 ?_
        refine g_aald hX (pc := 64) (t0 := 2) rfl (sp_mem (i := 2) rfl) (y := y) (vp_in_nI (by omega) (by omega)) (by rw [nI_clamp (by omega), h3 c hcl]; exact hy) dJ19_next_64 ?_
        refine g_pk [1, 1] rfl ?_
        refine g_fl (cs1 := [[(a, ob 15 [.int m0, .ref arr, .int (nI as.length)]), (arr, qA (aC E 2) cap f)], [(t, ob 16 [.int (nI (c + 1)), .int (nI c), .int m0, .ref a])]]) rfl ?_
        refine g_pk [1, 0] rfl ?_
        refine g_cs (cs1 := [[(t, ob 16 [.int (nI (c + 1)), .int (nI c), .int m0, .ref a])], [(a, ob 15 [.int m0, .ref arr, .int (nI as.length)]), (arr, qA (aC E 2) cap f)]]) rfl ?_
        refine g_aret hX (pc := 65) hR (by first | exact Or.inl ⟨_, rfl⟩ | exact Or.inr ⟨_, rfl⟩) ?_ (Nat.le_of_ble_eq_true rfl) (Nat.le_of_ble_eq_true rfl) dJ19_next_65
        exact ⟨rfl, rfl⟩
      · exact absurd (nI_lt (show c < cap by omega) (by omega)) c2
    · exact absurd (nI_lt hcl (by omega)) c1
  · exact absurd h1 (by omega)

set_option maxHeartbeats 4000000 in
theorem mt_Integer_valueOf (E : EE) (l : Launch) (k : Nat) (hk : (k < 128)) : Mt E l yJ18_valueOf cJ18_valueOf 1 (some (.object "java/lang/Integer")) 1 0 0 1 [.int (nI k)] [] (fun (v_ : Option Value) (cs_ : List va_W) => v_ = some (.ref (aI E (k + 128))) ∧ cs_ = []) := by
  refine Mt.of (by decide) (Nat.le_of_ble_eq_true rfl) (fun X hX hR hin => ?_)
  refine g_lv1 (lv1 := [(0, .int (nI k))]) rfl ?_
  refine g_iload_n hX (pc := 0) dJ18_valueOf_0 0 rfl ?_
  refine g_bipush hX (pc := 1) (v := (-128)) dJ18_valueOf_1 (by decide) ?_
  refine g_icmp_lt hX (pc := 3) (tgt := 23) dJ18_valueOf_3 rfl (fun c1 => ?_) (fun c1 => ?_)
  · exact absurd c1 (vo_1 hk)
  · refine g_iload_n hX (pc := 6) dJ18_valueOf_6 0 rfl ?_
    refine g_gets hX (pc := 7) (v := .int 127) (cx_gs hX).2.2.2.2.2.1 q2228 rfl dJ18_valueOf_7 ?_
    refine g_icmp_gt hX (pc := 10) (tgt := 23) dJ18_valueOf_10 rfl (fun c2 => ?_) (fun c2 => ?_)
    · exact absurd c2 (vo_2 hk)
    · refine g_gets hX (pc := 13) (v := .ref (aX E 3)) (cx_gs hX).2.2.2.2.2.2.1 q2230 rfl dJ18_valueOf_13 ?_
      refine g_iload_n hX (pc := 16) dJ18_valueOf_16 0 rfl ?_
      refine g_sipush hX (pc := 17) (v := 128) dJ18_valueOf_17 (by decide) ?_
      refine g_iadd hX (pc := 20) dJ18_valueOf_20 ?_
      refine g_eqi (nI (k + 128)) (vo_3 k) ?_
      refine g_tq hX (pc := 21) (cx_gs hX).2.2.2.2.2.2.2.2.2.1 (v := .ref (aI E (k + 128))) (vp_in_nI (by omega) (by omega)) (by rw [nI_clamp (by omega)]) dJ18_valueOf_21 ?_
      refine g_aret hX (pc := 22) hR (by first | exact Or.inl ⟨_, rfl⟩ | exact Or.inr ⟨_, rfl⟩) ?_ (Nat.le_of_ble_eq_true rfl) (Nat.le_of_ble_eq_true rfl) dJ18_valueOf_22
      exact ⟨rfl, rfl⟩

set_option maxHeartbeats 4000000 in
theorem mt_ALc_add (E : EE) (l : Launch) (a : Nat) (as : List Nat) (cap : Nat) (w : va_W) (x : Nat) (el : va_W) (hw : ALc E a as cap w) (hN2 : (cap ≤ 60000)) (hx : (okE E el x)) (hok : (okL E el as)) : Mt E l yJ2_add_2 cJ2_add_2 2 (some .boolean) 6 (al_mc (List.length as) cap) (al_ms (List.length as) cap) 150 [.ref a, .ref x] [w, el] (fun (v_ : Option Value) (cs_ : List va_W) => ∃ (w1 : va_W), ALc E a (as ++ [x]) (al_cap (List.length as) cap) w1 ∧ v_ = some (.int 1) ∧ cs_ = [w1, el]) := by
  obtain ⟨m0, arr, f, h1, h2, h3, hc⟩ := hw
  have he : nI (as ++ [x]).length = nI (as.length + 1) := by rw [List.length_append, List.length_singleton]
  have hk : ∀ i, i < as.length → ∀ y, f i = some y → okE E el y := fun i hi y hy => hok.get (i := i) (by rw [← h3 i hi]; exact hy)
  have hc4 : (as.length < cap ∧ w = [(a, ob 15 [.int m0, .ref arr, .int (nI as.length)]), (arr, qA (aC E 2) cap f)]) ∨ (as.length = cap ∧ 1 ≤ cap ∧ w = [(a, ob 15 [.int m0, .ref arr, .int (nI as.length)]), (arr, qA (aC E 2) cap f)]) ∨ (as = [] ∧ cap = 0 ∧ arr = aX E 0 ∧ w = [(a, ob 15 [.int m0, .ref arr, .int (nI as.length)])]) := by
    rcases hc with ⟨h4, h5⟩ | ⟨h4, h5, h6⟩
    · rcases Nat.lt_or_ge as.length cap with h6 | h6
      · exact Or.inl ⟨h6, h5⟩
      · exact Or.inr (Or.inl ⟨by omega, h4, h5⟩)
    · exact Or.inr (Or.inr ⟨List.eq_nil_of_length_eq_zero (by omega), h4, h5, h6⟩)
  rcases hc4 with ⟨h5, rfl⟩ | ⟨rfl, h4, rfl⟩ | ⟨rfl, rfl, harr0, rfl⟩
  · rw [al_mc1 h5, al_ms1 h5, al_cap1 h5]
    refine Mt.of (by decide) (Nat.le_of_ble_eq_true rfl) (fun X hX hR hin => ?_)
    refine g_lv1 (lv1 := [(0, .ref a), (1, .ref x)]) rfl ?_
    refine g_fl (cs1 := [[(a, ob 15 [.int m0, .ref arr, .int (nI as.length)])], [(arr, qA (aC E 2) cap f)], el]) rfl ?_
    refine g_aload_n hX (pc := 0) dJ2_add_2_0 0 rfl ?_
    refine g_dup hX (pc := 1) dJ2_add_2_1 rfl ?_
    refine g_getU hX (pc := 2) fcJ2 0 rfl 0 (by decide) q147 q146 (v := .int m0) rfl dJ2_add_2_2 ?_
    refine g_iconst hX (pc := 5) (v := 1) dJ2_add_2_5 (by decide) ?_
    refine g_iadd hX (pc := 6) dJ2_add_2_6 ?_
    refine g_putU hX (pc := 7) fcJ2 0 (fs1 := [.int (m0 + 1), .ref arr, .int (nI as.length)]) (cs1 := [[(a, ob 15 [.int (m0 + 1), .ref arr, .int (nI as.length)])], [(arr, qA (aC E 2) cap f)], el]) rfl 0 (by decide) q147 q146 rfl rfl rfl (Nat.le_of_ble_eq_true rfl) rfl rfl dJ2_add_2_7 ?_
    refine g_aload_n hX (pc := 10) dJ2_add_2_10 0 rfl ?_
    refine g_aload_n hX (pc := 11) dJ2_add_2_11 1 rfl ?_
    refine g_aload_n hX (pc := 12) dJ2_add_2_12 0 rfl ?_
    refine g_get hX (pc := 13) fcJ2 0 rfl 1 (by decide) q140 rfl (v := .ref arr) rfl dJ2_add_2_13 ?_
    refine g_aload_n hX (pc := 16) dJ2_add_2_16 0 rfl ?_
    refine g_get hX (pc := 17) fcJ2 0 rfl 2 (by decide) q143 rfl (v := .int (nI as.length)) rfl dJ2_add_2_17 ?_
    refine g_callV hX (pc := 20) kJ2_add_3 (mt_add3 E l a (m0 + 1) arr as.length cap f x el (h5) (h2) (hx)) q881 fcJ2 (sp_mem (i := 0) rfl) [0, 0, 0] rfl rfl rfl (Nat.le_of_ble_eq_true rfl) (Nat.le_of_ble_eq_true rfl) (Nat.le_of_ble_eq_true rfl) (by omega) (by omega) dJ2_add_2_20 (fun v w1 hp => ?_)
    obtain ⟨rfl, rfl⟩ := hp
    refine g_nrm (cs1 := [[(a, ob 15 [.int (m0 + 1), .ref arr, .int (nI (as.length + 1))])], [(arr, qA (aC E 2) cap (va_up f as.length (some x)))], el]) (st1 := []) rfl rfl ?_
    refine g_iconst hX (pc := 23) (v := 1) dJ2_add_2_23 (by decide) ?_
    refine g_cs (cs1 := [[(a, ob 15 [.int (m0 + 1), .ref arr, .int (nI (List.length (as ++ [x])))])], [(arr, qA (aC E 2) cap (va_up f as.length (some x)))], el]) (by rw [he]) ?_
    refine g_pk [0, 0] rfl ?_
    refine g_fl (cs1 := [[(a, ob 15 [.int (m0 + 1), .ref arr, .int (nI (List.length (as ++ [x])))]), (arr, qA (aC E 2) cap (va_up f as.length (some x)))], el]) rfl ?_
    refine g_zret hX (pc := 24) hR rfl ?_ (by omega) (by omega) dJ2_add_2_24
    exact ⟨_, ⟨m0 + 1, _, va_up f as.length (some x), by rw [List.length_append, List.length_singleton]; omega, h2, al_add h3, Or.inl ⟨by omega, rfl⟩⟩, rfl, rfl⟩
  · rw [al_mc2, al_ms2 h4, al_cap2 h4]
    refine Mt.of (by decide) (Nat.le_of_ble_eq_true rfl) (fun X hX hR hin => ?_)
    refine g_lv1 (lv1 := [(0, .ref a), (1, .ref x)]) rfl ?_
    refine g_fl (cs1 := [[(a, ob 15 [.int m0, .ref arr, .int (nI as.length)])], [(arr, qA (aC E 2) as.length f)], el]) rfl ?_
    refine g_aload_n hX (pc := 0) dJ2_add_2_0 0 rfl ?_
    refine g_dup hX (pc := 1) dJ2_add_2_1 rfl ?_
    refine g_getU hX (pc := 2) fcJ2 0 rfl 0 (by decide) q147 q146 (v := .int m0) rfl dJ2_add_2_2 ?_
    refine g_iconst hX (pc := 5) (v := 1) dJ2_add_2_5 (by decide) ?_
    refine g_iadd hX (pc := 6) dJ2_add_2_6 ?_
    refine g_putU hX (pc := 7) fcJ2 0 (fs1 := [.int (m0 + 1), .ref arr, .int (nI as.length)]) (cs1 := [[(a, ob 15 [.int (m0 + 1), .ref arr, .int (nI as.length)])], [(arr, qA (aC E 2) as.length f)], el]) rfl 0 (by decide) q147 q146 rfl rfl rfl (Nat.le_of_ble_eq_true rfl) rfl rfl dJ2_add_2_7 ?_
    refine g_aload_n hX (pc := 10) dJ2_add_2_10 0 rfl ?_
    refine g_aload_n hX (pc := 11) dJ2_add_2_11 1 rfl ?_
    refine g_aload_n hX (pc := 12) dJ2_add_2_12 0 rfl ?_
    refine g_get hX (pc := 13) fcJ2 0 rfl 1 (by decide) q140 rfl (v := .ref arr) rfl dJ2_add_2_13 ?_
    refine g_aload_n hX (pc := 16) dJ2_add_2_16 0 rfl ?_
    refine g_get hX (pc := 17) fcJ2 0 rfl 2 (by decide) q143 rfl (v := .int (nI as.length)) rfl dJ2_add_2_17 ?_
    refine g_callV hX (pc := 20) kJ2_add_3 (mt_add3g E l a (m0 + 1) arr as.length f x el (by omega) (by omega) (hx) (hk)) q881 fcJ2 (sp_mem (i := 0) rfl) [0, 0, 0] rfl rfl rfl (Nat.le_of_ble_eq_true rfl) (Nat.le_of_ble_eq_true rfl) (Nat.le_of_ble_eq_true rfl) (by omega) (by omega) dJ2_add_2_20 (fun v w1 hp => ?_)
    obtain ⟨q1, rfl, rfl⟩ := hp
    refine g_nrm (cs1 := [[(a, ob 15 [.int (m0 + 1), .ref q1, .int (nI (as.length + 1))])], [(q1, qA (aC E 2) (as.length + max 1 (as.length / 2)) (va_up (va_cpy f (fun _ => none) 0 0 as.length) as.length (some x)))], el]) (st1 := []) rfl rfl ?_
    refine g_iconst hX (pc := 23) (v := 1) dJ2_add_2_23 (by decide) ?_
    refine g_cs (cs1 := [[(a, ob 15 [.int (m0 + 1), .ref q1, .int (nI (List.length (as ++ [x])))])], [(q1, qA (aC E 2) (as.length + max 1 (as.length / 2)) (va_up (va_cpy f (fun _ => none) 0 0 as.length) as.length (some x)))], el]) (by rw [he]) ?_
    refine g_pk [0, 0] rfl ?_
    refine g_fl (cs1 := [[(a, ob 15 [.int (m0 + 1), .ref q1, .int (nI (List.length (as ++ [x])))]), (q1, qA (aC E 2) (as.length + max 1 (as.length / 2)) (va_up (va_cpy f (fun _ => none) 0 0 as.length) as.length (some x)))], el]) rfl ?_
    refine g_zret hX (pc := 24) hR rfl ?_ (by omega) (by omega) dJ2_add_2_24
    exact ⟨_, ⟨m0 + 1, _, va_up (va_cpy f (fun _ => none) 0 0 as.length) as.length (some x), by rw [List.length_append, List.length_singleton]; omega, by omega, al_add (al_cpy (Nat.le_refl _) h3), Or.inl ⟨by omega, rfl⟩⟩, rfl, rfl⟩
  · show Mt E l yJ2_add_2 cJ2_add_2 _ _ _ 1 10 _ _ _ _
    refine Mt.of (by decide) (Nat.le_of_ble_eq_true rfl) (fun X hX hR hin => ?_)
    refine g_lv1 (lv1 := [(0, .ref a), (1, .ref x)]) rfl ?_
    refine g_fl (cs1 := [[(a, ob 15 [.int m0, .ref arr, .int 0])], el]) rfl ?_
    refine g_aload_n hX (pc := 0) dJ2_add_2_0 0 rfl ?_
    refine g_dup hX (pc := 1) dJ2_add_2_1 rfl ?_
    refine g_getU hX (pc := 2) fcJ2 0 rfl 0 (by decide) q147 q146 (v := .int m0) rfl dJ2_add_2_2 ?_
    refine g_iconst hX (pc := 5) (v := 1) dJ2_add_2_5 (by decide) ?_
    refine g_iadd hX (pc := 6) dJ2_add_2_6 ?_
    refine g_putU hX (pc := 7) fcJ2 0 (fs1 := [.int (m0 + 1), .ref arr, .int 0]) (cs1 := [[(a, ob 15 [.int (m0 + 1), .ref arr, .int 0])], el]) rfl 0 (by decide) q147 q146 rfl rfl rfl (Nat.le_of_ble_eq_true rfl) rfl rfl dJ2_add_2_7 ?_
    refine g_aload_n hX (pc := 10) dJ2_add_2_10 0 rfl ?_
    refine g_aload_n hX (pc := 11) dJ2_add_2_11 1 rfl ?_
    refine g_aload_n hX (pc := 12) dJ2_add_2_12 0 rfl ?_
    refine g_get hX (pc := 13) fcJ2 0 rfl 1 (by decide) q140 rfl (v := .ref arr) rfl dJ2_add_2_13 ?_
    refine g_aload_n hX (pc := 16) dJ2_add_2_16 0 rfl ?_
    refine g_get hX (pc := 17) fcJ2 0 rfl 2 (by decide) q143 rfl (v := .int 0) rfl dJ2_add_2_17 ?_
    refine g_callV hX (pc := 20) kJ2_add_3 (mt_add3D E l a (m0 + 1) arr x el (harr0) (hx)) q881 fcJ2 (sp_mem (i := 0) rfl) [0, 0] rfl rfl rfl (Nat.le_of_ble_eq_true rfl) (Nat.le_of_ble_eq_true rfl) (Nat.le_of_ble_eq_true rfl) (by omega) (by omega) dJ2_add_2_20 (fun v w1 hp => ?_)
    obtain ⟨q1, rfl, rfl⟩ := hp
    refine g_nrm (cs1 := [[(a, ob 15 [.int (m0 + 1), .ref q1, .int 1])], [(q1, qA (aC E 2) 10 (va_up (fun _ => none) 0 (some x)))], el]) (st1 := []) rfl rfl ?_
    refine g_iconst hX (pc := 23) (v := 1) dJ2_add_2_23 (by decide) ?_
    refine g_cs (cs1 := [[(a, ob 15 [.int (m0 + 1), .ref q1, .int (nI (List.length (([] : List Nat) ++ [x])))])], [(q1, qA (aC E 2) 10 (va_up (fun _ => none) 0 (some x)))], el]) (rfl) ?_
    refine g_pk [0, 0] rfl ?_
    refine g_fl (cs1 := [[(a, ob 15 [.int (m0 + 1), .ref q1, .int (nI (List.length (([] : List Nat) ++ [x])))]), (q1, qA (aC E 2) 10 (va_up (fun _ => none) 0 (some x)))], el]) rfl ?_
    refine g_zret hX (pc := 24) hR rfl ?_ (by omega) (by omega) dJ2_add_2_24
    exact ⟨_, ⟨m0 + 1, _, _, by simp [al_cap], by simp [al_cap], al_add (as := []) (fun i hi => absurd hi (Nat.not_lt_zero _)), Or.inl ⟨by simp [al_cap], rfl⟩⟩, rfl, rfl⟩

set_option maxHeartbeats 4000000 in
theorem mt_ordK (E : EE) (l : Launch) (k : Nat) (hk : (k < 6)) : Mt E l yJ11_ordinal cJ11_ordinal 1 (some .int) 1 0 0 1 [.ref (aK E k)] [] (fun (v_ : Option Value) (cs_ : List va_W) => v_ = some (.int (nI k)) ∧ cs_ = []) := by
  refine Mt.of (by decide) (Nat.le_of_ble_eq_true rfl) (fun X hX hR hin => ?_)
  refine g_lv1 (lv1 := [(0, .ref (aK E k))]) rfl ?_
  refine g_aload_n hX (pc := 0) dJ11_ordinal_0 0 rfl ?_
  refine g_getE hX (pc := 1) (cx_gs hX).1 (i := k) (by show _ < 6; omega) (q := ("java/lang/Enum", "ordinal", "I", [0, 1, 2, 3, 4, 5])) (List.Mem.head _) q2452 rfl dJ11_ordinal_1 ?_
  refine g_eqi (nI k) (by rcases k with _ | _ | _ | _ | _ | _ | k <;> first | rfl | omega) ?_
  refine g_iret hX (pc := 4) hR ?_ (Nat.le_of_ble_eq_true rfl) (Nat.le_of_ble_eq_true rfl) dJ11_ordinal_4
  exact ⟨rfl, rfl⟩

set_option maxHeartbeats 4000000 in
theorem mt_ordW (E : EE) (l : Launch) (k : Nat) (hk : (k < 5)) : Mt E l yJ11_ordinal cJ11_ordinal 1 (some .int) 1 0 0 1 [.ref (aW E k)] [] (fun (v_ : Option Value) (cs_ : List va_W) => v_ = some (.int (nI k)) ∧ cs_ = []) := by
  refine Mt.of (by decide) (Nat.le_of_ble_eq_true rfl) (fun X hX hR hin => ?_)
  refine g_lv1 (lv1 := [(0, .ref (aW E k))]) rfl ?_
  refine g_aload_n hX (pc := 0) dJ11_ordinal_0 0 rfl ?_
  refine g_getE hX (pc := 1) (cx_gs hX).2.1 (i := k) (by show _ < 5; omega) (q := ("java/lang/Enum", "ordinal", "I", [0, 1, 2, 3, 4])) (List.Mem.head _) q2452 rfl dJ11_ordinal_1 ?_
  refine g_eqi (nI k) (by rcases k with _ | _ | _ | _ | _ | k <;> first | rfl | omega) ?_
  refine g_iret hX (pc := 4) hR ?_ (Nat.le_of_ble_eq_true rfl) (Nat.le_of_ble_eq_true rfl) dJ11_ordinal_4
  exact ⟨rfl, rfl⟩
