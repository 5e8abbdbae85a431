/-! the model's leaves: JDK, Store, Kept, Machine, Message -/
def ush (x y : Int32) : Int32 := (x.toUInt32 >>> (y.toUInt32 &&& Int32.toUInt32 31)).toInt32
def bc1 (x : Int32) : Int32 := x - (ush x 1 &&& 1431655765)
def bc2 (x : Int32) : Int32 := (x &&& 858993459) + (ush x 2 &&& 858993459)
def bc3 (x : Int32) : Int32 := x + ush x 4 &&& 252645135
def bc4 (x : Int32) : Int32 := x + ush x 8
def bc5 (x : Int32) : Int32 := x + ush x 16
def bitC (x : Int32) : Int32 := bc5 (bc4 (bc3 (bc2 (bc1 x)))) &&& 63
/-- the bits of the votes are the votes -/
theorem bitC_v : ∀ sz, sz ≤ 5 → ∀ n, n < 2 ^ sz → bitC (nI n) = vtUp (nI n) sz := by decide +kernel
theorem vb_nI {k : Nat} (hk : k < 100) : vb_c (k + 128) = nI k := by
  unfold vb_c
  show nI (k + 128) - nI 128 = nI k
  rw [← nI_add k 128]
  apply Int32.toBitVec_inj.mp
  simp only [Int32.toBitVec_add, Int32.toBitVec_sub]
  generalize (nI k).toBitVec = x
  generalize (nI 128).toBitVec = y
  exact BitVec.add_sub_cancel x y

set_option maxHeartbeats 4000000 in
theorem mt_bitCount (E : EE) (l : Launch) (x : Int32) : Mt E l yJ18_bitCount cJ18_bitCount 1 (some .int) 1 0 0 1 [.int x] [] (fun (v_ : Option Value) (cs_ : List va_W) => v_ = some (.int (bitC x)) ∧ cs_ = []) := by
  refine Mt.of (by decide) (Nat.le_of_ble_eq_true rfl) (fun X hX hR hin => ?_)
  refine g_lv1 (lv1 := [(0, .int x)]) rfl ?_
  refine g_iload_n hX (pc := 0) dJ18_bitCount_0 0 rfl ?_
  refine g_iload_n hX (pc := 1) dJ18_bitCount_1 0 rfl ?_
  refine g_iconst hX (pc := 2) (v := 1) dJ18_bitCount_2 (by decide) ?_
  refine g_iushr hX (pc := 3) (v := ush x 1) dJ18_bitCount_3 rfl ?_
  refine g_ldcw hX (pc := 4) (v := 1431655765) q1948 dJ18_bitCount_4 ?_
  refine g_iand hX (pc := 7) dJ18_bitCount_7 ?_
  refine g_isub hX (pc := 8) dJ18_bitCount_8 ?_
  refine g_eqi (bc1 x) (rfl) ?_
  refine g_istore_n hX (pc := 9) (lv1 := [(0, .int (bc1 x))]) dJ18_bitCount_9 (by decide) rfl ?_
  refine g_iload_n hX (pc := 10) dJ18_bitCount_10 0 rfl ?_
  refine g_ldcw hX (pc := 11) (v := 858993459) q1949 dJ18_bitCount_11 ?_
  refine g_iand hX (pc := 14) dJ18_bitCount_14 ?_
  refine g_iload_n hX (pc := 15) dJ18_bitCount_15 0 rfl ?_
  refine g_iconst hX (pc := 16) (v := 2) dJ18_bitCount_16 (by decide) ?_
  refine g_iushr hX (pc := 17) (v := ush (bc1 x) 2) dJ18_bitCount_17 rfl ?_
  refine g_ldcw hX (pc := 18) (v := 858993459) q1949 dJ18_bitCount_18 ?_
  refine g_iand hX (pc := 21) dJ18_bitCount_21 ?_
  refine g_iadd hX (pc := 22) dJ18_bitCount_22 ?_
  refine g_eqi (bc2 (bc1 x)) (rfl) ?_
  refine g_istore_n hX (pc := 23) (lv1 := [(0, .int (bc2 (bc1 x)))]) dJ18_bitCount_23 (by decide) rfl ?_
  refine g_iload_n hX (pc := 24) dJ18_bitCount_24 0 rfl ?_
  refine g_iload_n hX (pc := 25) dJ18_bitCount_25 0 rfl ?_
  refine g_iconst hX (pc := 26) (v := 4) dJ18_bitCount_26 (by decide) ?_
  refine g_iushr hX (pc := 27) (v := ush (bc2 (bc1 x)) 4) dJ18_bitCount_27 rfl ?_
  refine g_iadd hX (pc := 28) dJ18_bitCount_28 ?_
  refine g_ldcw hX (pc := 29) (v := 252645135) q1950 dJ18_bitCount_29 ?_
  refine g_iand hX (pc := 32) dJ18_bitCount_32 ?_
  refine g_eqi (bc3 (bc2 (bc1 x))) (rfl) ?_
  refine g_istore_n hX (pc := 33) (lv1 := [(0, .int (bc3 (bc2 (bc1 x))))]) dJ18_bitCount_33 (by decide) rfl ?_
  refine g_iload_n hX (pc := 34) dJ18_bitCount_34 0 rfl ?_
  refine g_iload_n hX (pc := 35) dJ18_bitCount_35 0 rfl ?_
  refine g_bipush hX (pc := 36) (v := 8) dJ18_bitCount_36 (by decide) ?_
  refine g_iushr hX (pc := 38) (v := ush (bc3 (bc2 (bc1 x))) 8) dJ18_bitCount_38 rfl ?_
  refine g_iadd hX (pc := 39) dJ18_bitCount_39 ?_
  refine g_eqi (bc4 (bc3 (bc2 (bc1 x)))) (rfl) ?_
  refine g_istore_n hX (pc := 40) (lv1 := [(0, .int (bc4 (bc3 (bc2 (bc1 x)))))]) dJ18_bitCount_40 (by decide) rfl ?_
  refine g_iload_n hX (pc := 41) dJ18_bitCount_41 0 rfl ?_
  refine g_iload_n hX (pc := 42) dJ18_bitCount_42 0 rfl ?_
  refine g_bipush hX (pc := 43) (v := 16) dJ18_bitCount_43 (by decide) ?_
  refine g_iushr hX (pc := 45) (v := ush (bc4 (bc3 (bc2 (bc1 x)))) 16) dJ18_bitCount_45 rfl ?_
  refine g_iadd hX (pc := 46) dJ18_bitCount_46 ?_
  refine g_eqi (bc5 (bc4 (bc3 (bc2 (bc1 x))))) (rfl) ?_
  refine g_istore_n hX (pc := 47) (lv1 := [(0, .int (bc5 (bc4 (bc3 (bc2 (bc1 x))))))]) dJ18_bitCount_47 (by decide) rfl ?_
  refine g_iload_n hX (pc := 48) dJ18_bitCount_48 0 rfl ?_
  refine g_bipush hX (pc := 49) (v := 63) dJ18_bitCount_49 (by decide) ?_
  refine g_iand hX (pc := 51) dJ18_bitCount_51 ?_
  refine g_eqi (bitC x) (rfl) ?_
  refine g_iret hX (pc := 52) hR ?_ (Nat.le_of_ble_eq_true rfl) (Nat.le_of_ble_eq_true rfl) dJ18_bitCount_52
  exact ⟨rfl, rfl⟩

set_option maxHeartbeats 4000000 in
theorem mt_Int_intValue (E : EE) (l : Launch) (k : Nat) (hk : (k < 100)) : Mt E l yJ18_intValue cJ18_intValue 1 (some .int) 1 0 0 1 [.ref (aI E (k + 128))] [] (fun (v_ : Option Value) (cs_ : List va_W) => v_ = some (.int (nI k)) ∧ cs_ = []) := by
  refine Mt.of (by decide) (Nat.le_of_ble_eq_true rfl) (fun X hX hR hin => ?_)
  refine g_lv1 (lv1 := [(0, .ref (aI E (k + 128)))]) rfl ?_
  refine g_aload_n hX (pc := 0) dJ18_intValue_0 0 rfl ?_
  refine g_getI hX (pc := 1) (by omega) (v := nI k) (vb_nI hk) q2241 dJ18_intValue_1 ?_
  refine g_iret hX (pc := 4) hR ?_ (Nat.le_of_ble_eq_true rfl) (Nat.le_of_ble_eq_true rfl) dJ18_intValue_4
  exact ⟨rfl, rfl⟩

set_option maxHeartbeats 4000000 in
theorem mt_Int_equals (E : EE) (l : Launch) (k : Nat) (j : Nat) (hk : (k < 100)) (hj : (j < 100)) : Mt E l yJ18_equals cJ18_equals 2 (some .boolean) 2 0 0 21 [.ref (aI E (k + 128)), .ref (aI E (j + 128))] [] (fun (v_ : Option Value) (cs_ : List va_W) => v_ = some (.int (if nI k = nI j then 1 else 0)) ∧ cs_ = []) := by
  refine Mt.of (by decide) (Nat.le_of_ble_eq_true rfl) (fun X hX hR hin => ?_)
  refine g_lv1 (lv1 := [(0, .ref (aI E (k + 128))), (1, .ref (aI E (j + 128)))]) rfl ?_
  refine g_aload_n hX (pc := 0) dJ18_equals_0 1 rfl ?_
  refine g_instI hX (pc := 1) (by omega) q2232 dJ18_equals_1 ?_
  refine g_if_eq hX (pc := 4) (tgt := 27) dJ18_equals_4 rfl (fun c1 => ?_) (fun c1 => ?_)
  · exact absurd c1 (by decide)
  · refine g_aload_n hX (pc := 7) dJ18_equals_7 0 rfl ?_
    refine g_getI hX (pc := 8) (by omega) (v := nI k) (vb_nI hk) q2241 dJ18_equals_8 ?_
    refine g_aload_n hX (pc := 11) dJ18_equals_11 1 rfl ?_
    refine g_castI hX (pc := 12) (by omega) q2232 dJ18_equals_12 ?_
    refine g_callK hX (pc := 15) kJ18_intValue (mt_Int_intValue E l j hj) q2287 (fun H locs hP hS => cx_Int hX (by omega) hS) [] rfl rfl rfl (Nat.le_of_ble_eq_true rfl) (Nat.le_of_ble_eq_true rfl) (Nat.le_of_ble_eq_true rfl) (Nat.le_of_ble_eq_true rfl) (Nat.le_of_ble_eq_true rfl) dJ18_equals_15 (fun v w1 hp => ?_)
    obtain ⟨rfl, rfl⟩ := hp
    refine g_nrm (cs1 := []) (st1 := [.int (nI j), .int (nI k)]) rfl rfl ?_
    refine g_val (v := if (nI k) = (nI j) then 1 else 0) (pcJ := 26) (st1 := []) (fun hj2 => ?_) ?_
    · refine g_icmp_ne hX (pc := 18) (tgt := 25) dJ18_equals_18 rfl (fun c3 => ?_) (fun c3 => ?_)
      · refine g_iconst hX (pc := 25) (v := 0) dJ18_equals_25 (by decide) ?_
        exact hj2 _ (by rw [if_neg c3])
      · refine g_iconst hX (pc := 21) (v := 1) dJ18_equals_21 (by decide) ?_
        refine g_goto hX (pc := 22) (tgt := 26) dJ18_equals_22 rfl ?_
        exact hj2 _ (by rw [if_pos c3])
    refine g_zret hX (pc := 26) hR (nz10 _) ?_ (Nat.le_of_ble_eq_true rfl) (Nat.le_of_ble_eq_true rfl) dJ18_equals_26
    exact ⟨rfl, rfl⟩

abbrev aJ (E : EE) (own : List Nat) : List Nat := List.map (fun k => aI E (k + 128)) own
theorem aj_at {E : EE} {own : List Nat} {i y : Nat} (h : own[i]? = some y) : (aJ E own)[i]? = some (aI E (y + 128)) := by rw [List.getElem?_map, h]; rfl
theorem aj_ok {E : EE} {el : va_W} {own : List Nat} (h : ∀ x ∈ own, x < 100) : okL E el (aJ E own) := by
  intro y hy
  obtain ⟨x, hx, rfl⟩ := List.mem_map.mp hy
  exact Or.inr (Or.inr ⟨x + 128, by have := h x hx; omega, rfl⟩)

set_option maxHeartbeats 4000000 in
theorem mt_AL_ixr (E : EE) (l : Launch) (a : Nat) (own : List Nat) (w : va_W) (k : Nat) (hw : AL E a (aJ E own) w) (hk : (k < 100)) (hall : (∀ x ∈ own, x < 100)) (hb : (own.length ≤ 1000)) : Mt E l yJ2_indexOfRange cJ2_indexOfRange 6 (some .int) 3 0 0 42 [.ref a, .ref (aI E (k + 128)), .int 0, .int (nI (List.length own))] [w] (fun (v_ : Option Value) (cs_ : List va_W) => ∃ (r : Int32), ((¬ r < 0) ↔ k ∈ own) ∧ v_ = some (.int r) ∧ cs_ = [w]) := by
  obtain ⟨m0, arr, cap, f, h1, h2, h3, ⟨h4, rfl⟩ | ⟨h4, h5, rfl⟩⟩ := hw
  · rw [List.length_map] at h1
    refine Mt.of (by decide) (Nat.le_of_ble_eq_true rfl) (fun X hX hR hin => ?_)
    refine g_lv1 (lv1 := [(0, .ref a), (1, .ref (aI E (k + 128))), (2, .int 0), (3, .int (nI (List.length own)))]) rfl ?_
    refine g_fl (cs1 := [[(a, ob 15 [.int m0, .ref arr, .int (nI (List.length (aJ E own)))])], [(arr, qA (aC E 2) cap f)]]) rfl ?_
    refine g_aload_n hX (pc := 0) dJ2_indexOfRange_0 0 rfl ?_
    refine g_get hX (pc := 1) fcJ2 0 rfl 1 (by decide) q140 rfl (v := .ref arr) rfl dJ2_indexOfRange_1 ?_
    refine g_astore hX (pc := 4) (lv1 := [(4, .ref arr), (0, .ref a), (1, .ref (aI E (k + 128))), (2, .int 0), (3, .int (nI (List.length own)))]) dJ2_indexOfRange_4 (by decide) rfl ?_
    refine g_aload_n hX (pc := 6) dJ2_indexOfRange_6 2 rfl ?_
    refine g_ifnonnull hX (pc := 7) (tgt := 39) dJ2_indexOfRange_7 rfl ?_
    refine g_iload_n hX (pc := 39) dJ2_indexOfRange_39 3 rfl ?_
    refine g_eqi (nI 0) (nI_0.symm) ?_
    refine g_istore hX (pc := 40) (lv1 := [(5, .int (nI 0)), (4, .ref arr), (0, .ref a), (1, .ref (aI E (k + 128))), (2, .int 0), (3, .int (nI (List.length own)))]) dJ2_indexOfRange_40 (by decide) rfl ?_
    have lp1 : ∀ (F1 : Nat) (i : Nat), own.length - i < F1 → (i ≤ own.length) → (∀ x, x < i → ¬ own[x]? = some k) → G E l X [[(a, ob 15 [.int m0, .ref arr, .int (nI (List.length (aJ E own)))])], [(arr, qA (aC E 2) cap f)]] 0 0 42 [(5, .int (nI i)), (4, .ref arr), (0, .ref a), (1, .ref (aI E (k + 128))), (2, .int 0), (3, .int (nI (List.length own)))] [] := by
      intro F1
      induction F1 with
      | zero =>
        intro i hF hi hno
        exact absurd hF (Nat.not_lt_zero _)
      | succ F1 ih1 =>
        intro i hF hi hno
        refine g_iload hX (pc := 42) dJ2_indexOfRange_42 0 rfl ?_
        refine g_iload_n hX (pc := 44) dJ2_indexOfRange_44 5 rfl ?_
        refine g_icmp_ge hX (pc := 45) (tgt := 69) dJ2_indexOfRange_45 rfl (fun c2 => ?_) (fun c2 => ?_)
        · have d2 : own.length ≤ i := (nI_leI (a := own.length) (b := i) (by omega) (by omega)).mp c2
          refine g_iconst hX (pc := 69) (v := (-1)) dJ2_indexOfRange_69 (by decide) ?_
          refine g_pk [0, 0] rfl ?_
          refine g_fl (cs1 := [[(a, ob 15 [.int m0, .ref arr, .int (nI (List.length (aJ E own)))]), (arr, qA (aC E 2) cap f)]]) rfl ?_
          refine g_iret hX (pc := 70) hR ?_ (by omega) (by omega) dJ2_indexOfRange_70
          refine ⟨_, ⟨fun z => absurd (by decide) z, fun z => ?_⟩, rfl, rfl⟩
          obtain ⟨x, hx⟩ := List.mem_iff_getElem?.mp z
          exact absurd hx (hno x (by have := (List.getElem?_eq_some_iff.mp hx).1; omega))
        · have d1 : i < own.length := by
            have := mt (nI_leI (a := own.length) (b := i) (by omega) (by omega)).mpr c2
            omega
          obtain ⟨y, hy⟩ := get_ex d1
          have hy1 : y < 100 := hall y (List.mem_of_getElem? hy)
          refine g_aload_n hX (pc := 48) dJ2_indexOfRange_48 3 rfl ?_
          refine g_aload hX (pc := 49) dJ2_indexOfRange_49 1 rfl ?_
          refine g_iload hX (pc := 51) dJ2_indexOfRange_51 0 rfl ?_
          refine g_aald hX (pc := 53) (t0 := 2) rfl (sp_mem (i := 1) rfl) (y := (aI E (y + 128))) (vp_in_nI (by omega) (by omega)) (by rw [nI_clamp (by omega), h3 i (by rw [List.length_map]; omega)]; exact aj_at hy) dJ2_indexOfRange_53 ?_
          refine g_callO hX (pc := 54) (C := "java/lang/Integer") (n := 1) (x := ⟨"java/lang/Object", "equals", "(Ljava/lang/Object;)Z"⟩) (y := yJ18_equals) (b := aI E (k + 128)) q2286 q2285 q2284 q104 q2260 q2257 ⟨by decide +kernel, by decide +kernel, by decide +kernel⟩ (mt_Int_equals E l k y hk hy1) q2258 (fun H locs hP hS => cx_Int hX (by omega) hS) [] rfl rfl rfl (Nat.le_of_ble_eq_true rfl) (Nat.le_of_ble_eq_true rfl) (Nat.le_of_ble_eq_true rfl) (by omega) (by omega) dJ2_indexOfRange_54 (fun v w1 hp => ?_)
          obtain ⟨rfl, rfl⟩ := hp
          refine g_nrm (cs1 := [[(a, ob 15 [.int m0, .ref arr, .int (nI (List.length (aJ E own)))])], [(arr, qA (aC E 2) cap f)]]) (st1 := [.int (if nI k = nI y then 1 else 0)]) rfl rfl ?_
          refine g_if_eq hX (pc := 57) (tgt := 63) dJ2_indexOfRange_57 rfl (fun c3_ => ?_) (fun c3_ => ?_)
          · have c3 := z10.mp c3_
            refine g_iinc hX (pc := 63) (v := nI (i + 1)) (lv1 := [(5, .int (nI (i + 1))), (4, .ref arr), (0, .ref a), (1, .ref (aI E (k + 128))), (2, .int 0), (3, .int (nI (List.length own)))]) dJ2_indexOfRange_63 0 rfl (nI_1 _) (by decide) rfl ?_
            refine g_goto hX (pc := 66) (tgt := 42) dJ2_indexOfRange_66 rfl ?_
            refine g_widen (kc1 := 0) (ks1 := 0) (by omega) (by omega) ?_
            exact ih1 (i + 1) (by omega) (by omega) (by
  intro x hx
  by_cases c : x = i
  · subst c
    rw [hy]
    rw [nI_eq (by omega) (by omega)] at c3
    exact fun z => c3 (Option.some.inj z).symm
  · exact hno x (by omega))
          · have c3 := z10n.mp c3_
            refine g_iload hX (pc := 60) dJ2_indexOfRange_60 0 rfl ?_
            refine g_pk [0, 0] rfl ?_
            refine g_fl (cs1 := [[(a, ob 15 [.int m0, .ref arr, .int (nI (List.length (aJ E own)))]), (arr, qA (aC E 2) cap f)]]) rfl ?_
            refine g_iret hX (pc := 62) hR ?_ (by omega) (by omega) dJ2_indexOfRange_62
            rw [nI_eq (by omega) (by omega)] at c3
            refine ⟨_, ⟨fun _ => by rw [c3]; exact List.mem_of_getElem? hy, fun _ => nI_pos (by omega)⟩, rfl, rfl⟩
    refine g_widen (kc1 := 0) (ks1 := 0) (by omega) (by omega) ?_
    exact lp1 ((own.length - 0) + 1) 0 (Nat.lt_succ_self _) (Nat.zero_le _) (fun x hx => absurd hx (Nat.not_lt_zero _))
  · rw [List.length_map] at h1
    have h0 : own.length = 0 := by omega
    refine Mt.of (by decide) (Nat.le_of_ble_eq_true rfl) (fun X hX hR hin => ?_)
    refine g_lv1 (lv1 := [(0, .ref a), (1, .ref (aI E (k + 128))), (2, .int 0), (3, .int (nI (List.length own)))]) rfl ?_
    refine g_fl (cs1 := [[(a, ob 15 [.int m0, .ref arr, .int (nI (List.length (aJ E own)))])]]) rfl ?_
    refine g_aload_n hX (pc := 0) dJ2_indexOfRange_0 0 rfl ?_
    refine g_get hX (pc := 1) fcJ2 0 rfl 1 (by decide) q140 rfl (v := .ref arr) rfl dJ2_indexOfRange_1 ?_
    refine g_astore hX (pc := 4) (lv1 := [(4, .ref arr), (0, .ref a), (1, .ref (aI E (k + 128))), (2, .int 0), (3, .int (nI (List.length own)))]) dJ2_indexOfRange_4 (by decide) rfl ?_
    refine g_aload_n hX (pc := 6) dJ2_indexOfRange_6 2 rfl ?_
    refine g_ifnonnull hX (pc := 7) (tgt := 39) dJ2_indexOfRange_7 rfl ?_
    refine g_iload_n hX (pc := 39) dJ2_indexOfRange_39 3 rfl ?_
    refine g_eqi (nI 0) (nI_0.symm) ?_
    refine g_istore hX (pc := 40) (lv1 := [(5, .int (nI 0)), (4, .ref arr), (0, .ref a), (1, .ref (aI E (k + 128))), (2, .int 0), (3, .int (nI (List.length own)))]) dJ2_indexOfRange_40 (by decide) rfl ?_
    refine g_iload hX (pc := 42) dJ2_indexOfRange_42 0 rfl ?_
    refine g_iload_n hX (pc := 44) dJ2_indexOfRange_44 5 rfl ?_
    refine g_icmp_ge hX (pc := 45) (tgt := 69) dJ2_indexOfRange_45 rfl (fun c1 => ?_) (fun c1 => ?_)
    · refine g_iconst hX (pc := 69) (v := (-1)) dJ2_indexOfRange_69 (by decide) ?_
      refine g_pk [0] rfl ?_
      refine g_fl (cs1 := [[(a, ob 15 [.int m0, .ref arr, .int (nI (List.length (aJ E own)))])]]) rfl ?_
      refine g_iret hX (pc := 70) hR ?_ (by omega) (by omega) dJ2_indexOfRange_70
      refine ⟨_, ⟨fun z => absurd (by decide) z, fun z => ?_⟩, rfl, rfl⟩
      rw [List.length_eq_zero_iff.mp h0] at z
      exact absurd z List.not_mem_nil
    · exact absurd (by rw [h0]; exact Int32.le_refl _) c1

set_option maxHeartbeats 4000000 in
theorem mt_AL_indexOf (E : EE) (l : Launch) (a : Nat) (own : List Nat) (w : va_W) (k : Nat) (hw : AL E a (aJ E own) w) (hk : (k < 100)) (hall : (∀ x ∈ own, x < 100)) (hb : (own.length ≤ 1000)) : Mt E l yJ2_indexOf cJ2_indexOf 2 (some .int) 4 0 0 67 [.ref a, .ref (aI E (k + 128))] [w] (fun (v_ : Option Value) (cs_ : List va_W) => ∃ (r : Int32), ((¬ r < 0) ↔ k ∈ own) ∧ v_ = some (.int r) ∧ cs_ = [w]) := by
  obtain ⟨m0, arr, hA⟩ := hw
  have hw : AL E a (aJ E own) w := ⟨m0, arr, hA⟩
  obtain ⟨mm, hmm⟩ : ∃ arr2 : Nat, (a, ob 15 [.int m0, .ref arr2, .int (nI (List.length (aJ E own)))]) ∈ w := by
    obtain ⟨cap, f, -, -, -, ⟨-, h⟩ | ⟨-, -, h⟩⟩ := hA
    · exact ⟨arr, by rw [h]; exact List.mem_cons_self⟩
    · exact ⟨arr, by rw [h]; exact List.mem_cons_self⟩
  refine Mt.of (by decide) (Nat.le_of_ble_eq_true rfl) (fun X hX hR hin => ?_)
  refine g_lv1 (lv1 := [(0, .ref a), (1, .ref (aI E (k + 128)))]) rfl ?_
  refine g_fl (cs1 := [w]) rfl ?_
  refine g_aload_n hX (pc := 0) dJ2_indexOf_0 0 rfl ?_
  refine g_aload_n hX (pc := 1) dJ2_indexOf_1 1 rfl ?_
  refine g_iconst hX (pc := 2) (v := 0) dJ2_indexOf_2 (by decide) ?_
  refine g_aload_n hX (pc := 3) dJ2_indexOf_3 0 rfl ?_
  refine g_getm hX (pc := 4) fcJ2 (sp_in 0 rfl hmm) 2 (by decide) q143 rfl (v := .int (nI (List.length (aJ E own)))) rfl dJ2_indexOf_4 ?_
  refine g_eqi (nI (List.length own)) (by rw [List.length_map]) ?_
  refine g_callV hX (pc := 7) kJ2_indexOfRange (mt_AL_ixr E l a own w k (hw) (hk) (hall) (hb)) q2253 fcJ2 (sp_in 0 rfl hmm) [0] rfl rfl rfl (Nat.le_of_ble_eq_true rfl) (Nat.le_of_ble_eq_true rfl) (Nat.le_of_ble_eq_true rfl) (Nat.le_of_ble_eq_true rfl) (Nat.le_of_ble_eq_true rfl) dJ2_indexOf_7 (fun v w1 hp => ?_)
  obtain ⟨r1, h2, rfl, rfl⟩ := hp
  refine g_nrm (cs1 := [w]) (st1 := [.int r1]) rfl rfl ?_
  refine g_iret hX (pc := 10) hR ?_ (Nat.le_of_ble_eq_true rfl) (Nat.le_of_ble_eq_true rfl) dJ2_indexOf_10
  exact ⟨_, h2, rfl, rfl⟩

set_option maxHeartbeats 4000000 in
theorem mt_AL_contains (E : EE) (l : Launch) (a : Nat) (own : List Nat) (w : va_W) (k : Nat) (hw : AL E a (aJ E own) w) (hk : (k < 100)) (hall : (∀ x ∈ own, x < 100)) (hb : (own.length ≤ 1000)) : Mt E l yJ2_contains cJ2_contains 2 (some .boolean) 5 0 0 88 [.ref a, .ref (aI E (k + 128))] [w] (fun (v_ : Option Value) (cs_ : List va_W) => v_ = some (.int (if k ∈ own then 1 else 0)) ∧ cs_ = [w]) := by
  refine Mt.of (by decide) (Nat.le_of_ble_eq_true rfl) (fun X hX hR hin => ?_)
  refine g_lv1 (lv1 := [(0, .ref a), (1, .ref (aI E (k + 128)))]) rfl ?_
  refine g_aload_n hX (pc := 0) dJ2_contains_0 0 rfl ?_
  refine g_aload_n hX (pc := 1) dJ2_contains_1 1 rfl ?_
  obtain ⟨fs1, hm2⟩ := AL.head hw
  refine g_callV hX (pc := 2) kJ2_indexOf (mt_AL_indexOf E l a own w k hw (hk) (hall) (hb)) q2249 fcJ2 (sp_in 0 rfl hm2) [0] rfl rfl rfl (Nat.le_of_ble_eq_true rfl) (Nat.le_of_ble_eq_true rfl) (Nat.le_of_ble_eq_true rfl) (Nat.le_of_ble_eq_true rfl) (Nat.le_of_ble_eq_true rfl) dJ2_contains_2 (fun v w1 hp => ?_)
  obtain ⟨r3, h4, rfl, rfl⟩ := hp
  refine g_nrm (cs1 := [w]) (st1 := [.int r3]) rfl rfl ?_
  have hcn := h4
  refine g_if_lt hX (pc := 5) (tgt := 12) dJ2_contains_5 rfl (fun c5 => ?_) (fun c5 => ?_)
  · refine g_iconst hX (pc := 12) (v := 0) dJ2_contains_12 (by decide) ?_
    refine g_zret hX (pc := 13) hR rfl ?_ (Nat.le_of_ble_eq_true rfl) (Nat.le_of_ble_eq_true rfl) dJ2_contains_13
    rw [if_neg (fun z => (hcn.mpr z) c5)]
    exact ⟨rfl, rfl⟩
  · refine g_iconst hX (pc := 8) (v := 1) dJ2_contains_8 (by decide) ?_
    refine g_goto hX (pc := 9) (tgt := 13) dJ2_contains_9 rfl ?_
    refine g_zret hX (pc := 13) hR rfl ?_ (Nat.le_of_ble_eq_true rfl) (Nat.le_of_ble_eq_true rfl) dJ2_contains_13
    rw [if_pos (hcn.mp c5)]
    exact ⟨rfl, rfl⟩

set_option maxHeartbeats 4000000 in
theorem mt_growD_n (E : EE) (l : Launch) (a : Nat) (m0 : Int32) (arr : Nat) (n : Nat) (harr0 : (arr = aX E 0)) (hn : (n ≤ 60000)) : Mt E l yJ2_grow_2 cJ2_grow_2 4 (some (.array (.object "java/lang/Object"))) 1 1 (max 10 n) 21 [.ref a, .int (nI n)] [[(a, ob 15 [.int m0, .ref arr, .int 0])]] (fun (v_ : Option Value) (cs_ : List va_W) => ∃ (q : Nat), v_ = some (.ref q) ∧ cs_ = [[(a, ob 15 [.int m0, .ref q, .int 0])], [(q, qA (aC E 2) (max 10 n) (fun _ => none))]]) := by
  have harr : arr = aX E 0 ∨ arr = aX E 1 := Or.inl harr0
  refine Mt.of (by decide) (Nat.le_of_ble_eq_true rfl) (fun X hX hR hin => ?_)
  refine g_lv1 (lv1 := [(0, .ref a), (1, .int (nI n))]) rfl ?_
  refine g_aload_n hX (pc := 0) dJ2_grow_2_0 0 rfl ?_
  refine g_get hX (pc := 1) fcJ2 0 rfl 1 (by decide) q140 rfl (v := .ref arr) rfl dJ2_grow_2_1 ?_
  refine g_tlen hX (pc := 4) (cx_T0 hX harr) (v := 0) rfl dJ2_grow_2_4 ?_
  refine g_istore_n hX (pc := 5) (lv1 := [(2, .int 0), (0, .ref a), (1, .int (nI n))]) dJ2_grow_2_5 (by decide) rfl ?_
  refine g_iload_n hX (pc := 6) dJ2_grow_2_6 0 rfl ?_
  refine g_if_gt hX (pc := 7) (tgt := 20) dJ2_grow_2_7 rfl (fun c1 => ?_) (fun c1 => ?_)
  · exact absurd c1 (by decide)
  · refine g_aload_n hX (pc := 10) dJ2_grow_2_10 1 rfl ?_
    refine g_get hX (pc := 11) fcJ2 0 rfl 1 (by decide) q140 rfl (v := .ref arr) rfl dJ2_grow_2_11 ?_
    refine g_gets hX (pc := 14) (v := .ref (aX E 0)) (cx_gs hX).2.2.1 q138 rfl dJ2_grow_2_14 ?_
    refine g_acmp_eqr hX (pc := 17) (tgt := 45) dJ2_grow_2_17 rfl (fun c2 => ?_) (fun c2 => ?_)
    · refine g_aload_n hX (pc := 45) dJ2_grow_2_45 1 rfl ?_
      refine g_bipush hX (pc := 46) (v := 10) dJ2_grow_2_46 (by decide) ?_
      refine g_iload_n hX (pc := 48) dJ2_grow_2_48 2 rfl ?_
      refine g_mmax hX (pc := 49) q679 (Nat.le_of_ble_eq_true rfl) (Nat.le_of_ble_eq_true rfl) (by omega) (by omega) q_m1max q_m2 q_m3max dJ2_grow_2_49 ?_
      refine g_eqi (nI (max 10 n)) (al_max (a := 10) (b := n) (by omega) (by omega)) ?_
      refine g_newq hX (pc := 52) (t0 := 2) rfl q680 hX.2.2.2.2.2.2.2.2.2.1.1.2.1 (max 10 n) (nI_pos (by omega)) (nI_clamp (by omega)) (by omega) (by omega) (by omega) dJ2_grow_2_52 (fun q3 => ?_)
      refine g_dup_x1 hX (pc := 55) dJ2_grow_2_55 rfl rfl ?_
      refine g_put hX (pc := 56) fcJ2 1 (fs1 := [.int m0, .ref q3, .int 0]) (cs1 := [[(q3, qA (aC E 2) (max 10 n) (fun _ => none))], [(a, ob 15 [.int m0, .ref q3, .int 0])]]) rfl 1 (by decide) q140 rfl rfl rfl rfl (Nat.le_of_ble_eq_true rfl) rfl rfl dJ2_grow_2_56 ?_
      refine g_pk [1, 0] rfl ?_
      refine g_cs (cs1 := [[(a, ob 15 [.int m0, .ref q3, .int 0])], [(q3, qA (aC E 2) (max 10 n) (fun _ => none))]]) rfl ?_
      refine g_aret hX (pc := 59) hR (by first | exact Or.inl ⟨_, rfl⟩ | exact Or.inr ⟨_, rfl⟩) ?_ (by omega) (by omega) dJ2_grow_2_59
      exact ⟨_, rfl, rfl⟩
    · exact absurd harr0 c2

set_option maxHeartbeats 4000000 in
theorem mt_AL_initC (E : EE) (l : Launch) (a : Nat) (c : Nat) (as : List Nat) (w : va_W) (el : va_W) (hw : AL E c as w) (hok : (okL E el as)) : Mt E l yJ2_init_2 cJ2_init_2 3 none 4 1 as.length 104 [.ref a, .ref c] [[(a, ob 15 [.int 0, .null, .int 0])], w, el] (fun (v_ : Option Value) (cs_ : List va_W) => ∃ (w1 : va_W), AL E a as w1 ∧ v_ = none ∧ cs_ = [w1, w, el]) := by
  have hlen : as.length ≤ 100000 := by
    obtain ⟨m1, arr1, cap1, f1, h1, h2, -⟩ := hw
    omega
  refine Mt.of (by decide) (Nat.le_of_ble_eq_true rfl) (fun X hX hR hin => ?_)
  refine g_lv1 (lv1 := [(0, .ref a), (1, .ref c)]) rfl ?_
  refine g_aload_n hX (pc := 0) dJ2_init_2_0 0 rfl ?_
  refine g_callI hX (pc := 1) kJ1_init (mt_ALi_init E l a) q131 [0] rfl rfl rfl (Nat.le_of_ble_eq_true rfl) (Nat.le_of_ble_eq_true rfl) (Nat.le_of_ble_eq_true rfl) (by omega) (by omega) dJ2_init_2_1 (fun v w1 hp => ?_)
  obtain ⟨rfl, rfl⟩ := hp
  refine g_nrm (cs1 := [[(a, ob 15 [.int 0, .null, .int 0])], w, el]) (st1 := []) rfl rfl ?_
  refine g_aload_n hX (pc := 4) dJ2_init_2_4 1 rfl ?_
  obtain ⟨fs1, hm2⟩ := AL.head hw
  refine g_callF hX (pc := 5) kfJ2_toArray (mt_AL_toArray E l c as w el hw (hok)) q1840 fcJ2 (sp_in 1 rfl hm2) [1, 1] rfl rfl rfl (Nat.le_of_ble_eq_true rfl) (Nat.le_of_ble_eq_true rfl) (Nat.le_of_ble_eq_true rfl) (by omega) (by omega) dJ2_init_2_5 (fun v w1 hp => ?_)
  obtain ⟨q3, g1, h4, rfl, rfl⟩ := hp
  refine g_nrm (cs1 := [[(q3, qA (aC E 2) (List.length as) g1)], w, el, [(a, ob 15 [.int 0, .null, .int 0])]]) (st1 := [.ref q3]) rfl rfl ?_
  have hg1 := h4
  refine g_astore_n hX (pc := 10) (lv1 := [(2, .ref q3), (0, .ref a), (1, .ref c)]) dJ2_init_2_10 (by decide) rfl ?_
  refine g_aload_n hX (pc := 11) dJ2_init_2_11 1 rfl ?_
  refine g_aload_n hX (pc := 12) dJ2_init_2_12 0 rfl ?_
  refine g_alen hX (pc := 13) (sp_mem (i := 0) rfl) 2 rfl (v := (nI (List.length as))) rfl dJ2_init_2_13 ?_
  refine g_dup_x1 hX (pc := 14) dJ2_init_2_14 rfl rfl ?_
  refine g_put hX (pc := 15) fcJ2 3 (fs1 := [.int 0, .null, .int (nI (List.length as))]) (cs1 := [[(q3, qA (aC E 2) (List.length as) g1)], w, el, [(a, ob 15 [.int 0, .null, .int (nI (List.length as))])]]) rfl 2 (by decide) q143 rfl rfl rfl rfl (Nat.le_of_ble_eq_true rfl) rfl rfl dJ2_init_2_15 ?_
  refine g_if_eq hX (pc := 18) (tgt := 57) dJ2_init_2_18 rfl (fun c5 => ?_) (fun c5 => ?_)
  · refine g_aload_n hX (pc := 57) dJ2_init_2_57 1 rfl ?_
    refine g_gets hX (pc := 58) (v := .ref (aX E 1)) (cx_gs hX).2.2.2.1 q1858 rfl dJ2_init_2_58 ?_
    refine g_put hX (pc := 61) fcJ2 3 (fs1 := [.int 0, .ref (aX E 1), .int (nI (List.length as))]) (cs1 := [[(q3, qA (aC E 2) (List.length as) g1)], w, el, [(a, ob 15 [.int 0, .ref (aX E 1), .int (nI (List.length as))])]]) rfl 1 (by decide) q140 rfl rfl rfl rfl (Nat.le_of_ble_eq_true rfl) rfl rfl dJ2_init_2_61 ?_
    refine g_drop (cs1 := [w, el, [(a, ob 15 [.int 0, .ref (aX E 1), .int (nI (List.length as))])]]) [0] rfl ?_
    refine g_pk [2] rfl ?_
    refine g_fl (cs1 := [[(a, ob 15 [.int 0, .ref (aX E 1), .int (nI (List.length as))])], w, el]) rfl ?_
    refine g_vret hX (pc := 64) hR ?_ (by omega) (by omega) dJ2_init_2_64
    have h0 : as.length = 0 := (nI_eq (a := as.length) (b := 0) (by omega) (by omega)).mp c5
    exact ⟨_, ⟨0, aX E 1, 0, fun _ => none, by omega, by omega, fun i hi => absurd hi (by omega), Or.inr ⟨rfl, Or.inr rfl, rfl⟩⟩, rfl, rfl⟩
  · refine g_aload_n hX (pc := 21) dJ2_init_2_21 2 rfl ?_
    refine g_getCF hX (pc := 22) q1850 q670 q644 q672 (sp_in 1 rfl hm2) (Nat.le_of_ble_eq_true rfl) (Nat.le_of_ble_eq_true rfl) dJ2_init_2_22 ?_
    refine g_ldcM hX (pc := 27) (mi := aX E 5) q1855 (cx_M5 hX) dJ2_init_2_27 ?_
    refine g_acmp_ner hX (pc := 29) (tgt := 40) dJ2_init_2_29 rfl (fun c6 => ?_) (fun c6 => ?_)
    · exact absurd rfl c6
    · refine g_aload_n hX (pc := 32) dJ2_init_2_32 1 rfl ?_
      refine g_aload_n hX (pc := 33) dJ2_init_2_33 0 rfl ?_
      refine g_put hX (pc := 34) fcJ2 3 (fs1 := [.int 0, .ref q3, .int (nI (List.length as))]) (cs1 := [[(q3, qA (aC E 2) (List.length as) g1)], w, el, [(a, ob 15 [.int 0, .ref q3, .int (nI (List.length as))])]]) rfl 1 (by decide) q140 rfl rfl rfl rfl (Nat.le_of_ble_eq_true rfl) rfl rfl dJ2_init_2_34 ?_
      refine g_goto hX (pc := 37) (tgt := 64) dJ2_init_2_37 rfl ?_
      refine g_pk [3, 0] rfl ?_
      refine g_fl (cs1 := [[(a, ob 15 [.int 0, .ref q3, .int (nI (List.length as))]), (q3, qA (aC E 2) (List.length as) g1)], w, el]) rfl ?_
      refine g_vret hX (pc := 64) hR ?_ (by omega) (by omega) dJ2_init_2_64
      have h0 : ¬ as.length = 0 := mt (nI_eq (a := as.length) (b := 0) (by omega) (by omega)).mpr c5
      exact ⟨_, ⟨0, q3, as.length, g1, Nat.le_refl _, hlen, hg1, Or.inl ⟨by omega, rfl⟩⟩, rfl, rfl⟩

set_option maxHeartbeats 4000000 in
theorem mt_AL_addAll (E : EE) (l : Launch) (a : Nat) (w0 : va_W) (c : Nat) (as : List Nat) (w : va_W) (el : va_W) (hw0 : ALc E a [] 0 w0) (hw : AL E c as w) (hok : (okL E el as)) (hb : (as.length ≤ 1000)) : Mt E l yJ2_addAll cJ2_addAll 6 (some .boolean) 4 2 (as.length + max 10 as.length) 104 [.ref a, .ref c] [w0, w, el] (fun (v_ : Option Value) (cs_ : List va_W) => ∃ (w1 : va_W), AL E a as w1 ∧ v_ = some (.int (if as.length = 0 then 0 else 1)) ∧ cs_ = [w1, w, el]) := by
  have hlen : as.length ≤ 100000 := by
    obtain ⟨m1, arr1, cap1, f1, h1, h2, -⟩ := hw
    omega
  obtain ⟨m0, arr, f, -, -, -, ⟨h, -⟩ | ⟨-, harr0, rfl⟩⟩ := hw0
  · exact absurd h (by omega)
  · subst harr0
    have harr : aX E 0 = aX E 0 ∨ aX E 0 = aX E 1 := Or.inl rfl
    refine Mt.of (by decide) (Nat.le_of_ble_eq_true rfl) (fun X hX hR hin => ?_)
    refine g_lv1 (lv1 := [(0, .ref a), (1, .ref c)]) rfl ?_
    refine g_fl (cs1 := [[(a, ob 15 [.int m0, .ref (aX E 0), .int 0])], w, el]) rfl ?_
    refine g_aload_n hX (pc := 0) dJ2_addAll_0 1 rfl ?_
    obtain ⟨fs1, hm2⟩ := AL.head hw
    refine g_callF hX (pc := 1) kfJ2_toArray (mt_AL_toArray E l c as w el (hw) (hok)) q1840 fcJ2 (sp_in 1 rfl hm2) [1, 1] rfl rfl rfl (Nat.le_of_ble_eq_true rfl) (Nat.le_of_ble_eq_true rfl) (Nat.le_of_ble_eq_true rfl) (by omega) (by omega) dJ2_addAll_1 (fun v w1 hp => ?_)
    obtain ⟨q3, g1, h4, rfl, rfl⟩ := hp
    refine g_nrm (cs1 := [[(q3, qA (aC E 2) (List.length as) g1)], w, el, [(a, ob 15 [.int m0, .ref (aX E 0), .int 0])]]) (st1 := [.ref q3]) rfl rfl ?_
    have hg1 := h4
    refine g_astore_n hX (pc := 6) (lv1 := [(2, .ref q3), (0, .ref a), (1, .ref c)]) dJ2_addAll_6 (by decide) rfl ?_
    refine g_aload_n hX (pc := 7) dJ2_addAll_7 1 rfl ?_
    refine g_dup hX (pc := 8) dJ2_addAll_8 rfl ?_
    refine g_getU hX (pc := 9) fcJ2 3 rfl 0 (by decide) q147 q146 (v := .int m0) rfl dJ2_addAll_9 ?_
    refine g_iconst hX (pc := 12) (v := 1) dJ2_addAll_12 (by decide) ?_
    refine g_iadd hX (pc := 13) dJ2_addAll_13 ?_
    refine g_putU hX (pc := 14) fcJ2 3 (fs1 := [.int (m0 + 1), .ref (aX E 0), .int 0]) (cs1 := [[(q3, qA (aC E 2) (List.length as) g1)], w, el, [(a, ob 15 [.int (m0 + 1), .ref (aX E 0), .int 0])]]) rfl 0 (by decide) q147 q146 rfl rfl rfl (Nat.le_of_ble_eq_true rfl) rfl rfl dJ2_addAll_14 ?_
    refine g_aload_n hX (pc := 17) dJ2_addAll_17 0 rfl ?_
    refine g_alen hX (pc := 18) (sp_mem (i := 0) rfl) 2 rfl (v := (nI (List.length as))) rfl dJ2_addAll_18 ?_
    refine g_istore_n hX (pc := 19) (lv1 := [(3, .int (nI (List.length as))), (2, .ref q3), (0, .ref a), (1, .ref c)]) dJ2_addAll_19 (by decide) rfl ?_
    refine g_iload_n hX (pc := 20) dJ2_addAll_20 0 rfl ?_
    refine g_if_ne hX (pc := 21) (tgt := 26) dJ2_addAll_21 rfl (fun c5 => ?_) (fun c5 => ?_)
    · have h0 : ¬ as.length = 0 := fun z => c5 (by rw [z]; rfl)
      refine g_iload_n hX (pc := 26) dJ2_addAll_26 0 rfl ?_
      refine g_aload_n hX (pc := 27) dJ2_addAll_27 2 rfl ?_
      refine g_get hX (pc := 28) fcJ2 3 rfl 1 (by decide) q140 rfl (v := .ref (aX E 0)) rfl dJ2_addAll_28 ?_
      refine g_dup hX (pc := 31) dJ2_addAll_31 rfl ?_
      refine g_astore hX (pc := 32) (lv1 := [(4, .ref (aX E 0)), (3, .int (nI (List.length as))), (2, .ref q3), (0, .ref a), (1, .ref c)]) dJ2_addAll_32 (by decide) rfl ?_
      refine g_tlen hX (pc := 34) (cx_T0 hX harr) (v := 0) rfl dJ2_addAll_34 ?_
      refine g_aload_n hX (pc := 35) dJ2_addAll_35 3 rfl ?_
      refine g_get hX (pc := 36) fcJ2 3 rfl 2 (by decide) q143 rfl (v := .int 0) rfl dJ2_addAll_36 ?_
      refine g_dup hX (pc := 39) dJ2_addAll_39 rfl ?_
      refine g_istore hX (pc := 40) (lv1 := [(5, .int 0), (4, .ref (aX E 0)), (3, .int (nI (List.length as))), (2, .ref q3), (0, .ref a), (1, .ref c)]) dJ2_addAll_40 (by decide) rfl ?_
      refine g_isub hX (pc := 42) dJ2_addAll_42 ?_
      refine g_eqi 0 (by decide) ?_
      refine g_icmp_le hX (pc := 43) (tgt := 56) dJ2_addAll_43 rfl (fun c6 => ?_) (fun c6 => ?_)
      · exact absurd c6 (Int32.not_le.mpr (al_pos (by omega) (by omega)))
      · refine g_aload_n hX (pc := 46) dJ2_addAll_46 4 rfl ?_
        refine g_iload hX (pc := 47) dJ2_addAll_47 0 rfl ?_
        refine g_iload_n hX (pc := 49) dJ2_addAll_49 2 rfl ?_
        refine g_iadd hX (pc := 50) dJ2_addAll_50 ?_
        refine g_eqi (nI as.length) (Int32.zero_add _) ?_
        refine g_callV hX (pc := 51) kJ2_grow_2 (mt_growD_n E l a (m0 + 1) (aX E 0) as.length (rfl) (by omega)) q635 fcJ2 (sp_mem (i := 3) rfl) [3] rfl rfl rfl (Nat.le_of_ble_eq_true rfl) (Nat.le_of_ble_eq_true rfl) (Nat.le_of_ble_eq_true rfl) (by omega) (by omega) dJ2_addAll_51 (fun v w1 hp => ?_)
        obtain ⟨q7, rfl, rfl⟩ := hp
        refine g_nrm (cs1 := [[(a, ob 15 [.int (m0 + 1), .ref q7, .int 0])], [(q7, qA (aC E 2) (max 10 as.length) (fun _ => none))], [(q3, qA (aC E 2) (List.length as) g1)], w, el]) (st1 := [.ref q7]) rfl rfl ?_
        refine g_astore hX (pc := 54) (lv1 := [(4, .ref q7), (5, .int 0), (3, .int (nI (List.length as))), (2, .ref q3), (0, .ref a), (1, .ref c)]) dJ2_addAll_54 (by decide) rfl ?_
        refine g_aload_n hX (pc := 56) dJ2_addAll_56 3 rfl ?_
        refine g_iconst hX (pc := 57) (v := 0) dJ2_addAll_57 (by decide) ?_
        refine g_aload hX (pc := 58) dJ2_addAll_58 0 rfl ?_
        refine g_iload hX (pc := 60) dJ2_addAll_60 1 rfl ?_
        refine g_iload_n hX (pc := 62) dJ2_addAll_62 2 rfl ?_
        refine g_copyq hX (pc := 63) q681 q_ac1 q_ac2 q_ac3 (sp_mem (i := 2) rfl) 1 (cs1 := [[(a, ob 15 [.int (m0 + 1), .ref q7, .int 0])], [(q7, qA (aC E 2) (max 10 as.length) (va_cpy g1 (fun _ => none) 0 0 as.length))], [(q3, qA (aC E 2) (List.length as) g1)], w, el]) rfl (by decide) (by decide) (nI_pos (by omega)) (by rw [sb_cl0, nI_clamp (by omega)]; omega) (by rw [sb_cl0, nI_clamp (by omega)]; omega) (fun H locs hP hS i hi y hy => any_ok hX hP hS (el := el) (fun q hq => sp_in 4 rfl hq) (hok y (List.mem_iff_getElem?.mpr ⟨i, by rw [← hg1 i (by rw [nI_clamp (by omega)] at hi; exact hi)]; rw [sb_cl0, Nat.zero_add] at hy; exact hy⟩))) (g1 := (va_cpy g1 (fun _ => none) 0 0 as.length)) (al_cpy0 (by omega)) rfl (Nat.le_of_ble_eq_true rfl) (Nat.le_of_ble_eq_true rfl) dJ2_addAll_63 ?_
        refine g_aload_n hX (pc := 66) dJ2_addAll_66 4 rfl ?_
        refine g_iload hX (pc := 67) dJ2_addAll_67 1 rfl ?_
        refine g_iload_n hX (pc := 69) dJ2_addAll_69 2 rfl ?_
        refine g_iadd hX (pc := 70) dJ2_addAll_70 ?_
        refine g_eqi (nI (List.length as)) (Int32.zero_add _) ?_
        refine g_put hX (pc := 71) fcJ2 0 (fs1 := [.int (m0 + 1), .ref q7, .int (nI (List.length as))]) (cs1 := [[(a, ob 15 [.int (m0 + 1), .ref q7, .int (nI (List.length as))])], [(q7, qA (aC E 2) (max 10 as.length) (va_cpy g1 (fun _ => none) 0 0 as.length))], [(q3, qA (aC E 2) (List.length as) g1)], w, el]) rfl 2 (by decide) q143 rfl rfl rfl rfl (Nat.le_of_ble_eq_true rfl) rfl rfl dJ2_addAll_71 ?_
        refine g_iconst hX (pc := 74) (v := 1) dJ2_addAll_74 (by decide) ?_
        refine g_drop (cs1 := [[(a, ob 15 [.int (m0 + 1), .ref q7, .int (nI (List.length as))])], [(q7, qA (aC E 2) (max 10 as.length) (va_cpy g1 (fun _ => none) 0 0 as.length))], w, el]) [2] rfl ?_
        refine g_pk [0, 0] rfl ?_
        refine g_fl (cs1 := [[(a, ob 15 [.int (m0 + 1), .ref q7, .int (nI (List.length as))]), (q7, qA (aC E 2) (max 10 as.length) (va_cpy g1 (fun _ => none) 0 0 as.length))], w, el]) rfl ?_
        refine g_zret hX (pc := 75) hR rfl ?_ (by omega) (by omega) dJ2_addAll_75
        rw [if_neg h0]
        exact ⟨_, ⟨m0 + 1, q7, max 10 as.length, va_cpy g1 (fun _ => none) 0 0 as.length, by omega, by omega, al_cpy (Nat.le_refl _) hg1, Or.inl ⟨by omega, rfl⟩⟩, rfl, rfl⟩
    · have h0 : as.length = 0 := (nI_eq (a := as.length) (b := 0) (by omega) (by omega)).mp c5
      refine g_iconst hX (pc := 24) (v := 0) dJ2_addAll_24 (by decide) ?_
      refine g_drop (cs1 := [w, el, [(a, ob 15 [.int (m0 + 1), .ref (aX E 0), .int 0])]]) [0] rfl ?_
      refine g_pk [2] rfl ?_
      refine g_fl (cs1 := [[(a, ob 15 [.int (m0 + 1), .ref (aX E 0), .int 0])], w, el]) rfl ?_
      refine g_zret hX (pc := 25) hR rfl ?_ (by omega) (by omega) dJ2_addAll_25
      rw [if_pos h0]
      exact ⟨_, ⟨m0 + 1, aX E 0, 0, fun _ => none, by omega, by omega, fun i hi => absurd hi (by omega), Or.inr ⟨rfl, Or.inl rfl, by rw [h0]; rfl⟩⟩, rfl, rfl⟩
