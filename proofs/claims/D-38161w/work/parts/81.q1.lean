set_option maxHeartbeats 4000000 in
theorem mt_must (E : EE) (l : Launch) : Mt E l yX1_must cX1_must 1 none 1 0 0 1 [.int 1] [] (fun (v_ : Option Value) (cs_ : List va_W) => v_ = none ∧ cs_ = []) := by
  refine Mt.of (by decide) (Nat.le_of_ble_eq_true rfl) (fun X hX hR hin => ?_)
  refine g_lv1 (lv1 := [(0, .int 1)]) rfl ?_
  refine g_iload_n hX (pc := 0) dX1_must_0 0 rfl ?_
  refine g_if_ne hX (pc := 1) (tgt := 12) dX1_must_1 rfl (fun c1 => ?_) (fun c1 => ?_)
  · refine g_vret hX (pc := 12) hR ?_ (Nat.le_of_ble_eq_true rfl) (Nat.le_of_ble_eq_true rfl) dX1_must_12
    exact ⟨rfl, rfl⟩
  · exact absurd c1 (by decide)

set_option maxHeartbeats 4000000 in
theorem mx_must (E : EE) (l : Launch) (hl0 : l.stackTraces = false) : Mx E l yX1_must cX1_must 1 none 6 1 6 81 [.int 0] [] (fun (_ : Option Value) (_ : List va_W) => False) (fun (C_ : String) (cs_ : List va_W) => C_ = "java/lang/IllegalArgumentException" ∧ cs_ = []) := by
  refine Mx.of (by decide) (Nat.le_of_ble_eq_true rfl) (fun X hX hR hT => ?_)
  refine g_lv1 (lv1 := [(0, .int 0)]) rfl ?_
  refine g_iload_n hX (pc := 0) dX1_must_0 0 rfl ?_
  refine g_if_ne hX (pc := 1) (tgt := 12) dX1_must_1 rfl (fun c1 => ?_) (fun c1 => ?_)
  · exact absurd c1 (by decide)
  · refine gx_throw0 hX (pc := 4) hR hT hl0 (cls := "java/lang/IllegalArgumentException") (names := ["java/lang/RuntimeException", "java/lang/Exception"]) (ik := 16) (ic := 18) (by decide +kernel) (by decide +kernel) q1314 q90 (at0_A hX) gd0_A dX1_must_4 dX1_must_7 dX1_must_8 dX1_must_11 (Nat.le_of_ble_eq_true rfl) (Nat.le_of_ble_eq_true rfl) (Nat.le_of_ble_eq_true rfl) (Nat.le_of_ble_eq_true rfl) ⟨rfl, rfl⟩

set_option maxHeartbeats 4000000 in
theorem mt_checkState (E : EE) (l : Launch) : Mt E l yX1_checkState cX1_checkState 1 none 1 0 0 1 [.int 1] [] (fun (v_ : Option Value) (cs_ : List va_W) => v_ = none ∧ cs_ = []) := by
  refine Mt.of (by decide) (Nat.le_of_ble_eq_true rfl) (fun X hX hR hin => ?_)
  refine g_lv1 (lv1 := [(0, .int 1)]) rfl ?_
  refine g_iload_n hX (pc := 0) dX1_checkState_0 0 rfl ?_
  refine g_if_ne hX (pc := 1) (tgt := 12) dX1_checkState_1 rfl (fun c1 => ?_) (fun c1 => ?_)
  · refine g_vret hX (pc := 12) hR ?_ (Nat.le_of_ble_eq_true rfl) (Nat.le_of_ble_eq_true rfl) dX1_checkState_12
    exact ⟨rfl, rfl⟩
  · exact absurd c1 (by decide)

set_option maxHeartbeats 4000000 in
theorem mx_checkState (E : EE) (l : Launch) (hl0 : l.stackTraces = false) : Mx E l yX1_checkState cX1_checkState 1 none 6 1 6 81 [.int 0] [] (fun (_ : Option Value) (_ : List va_W) => False) (fun (C_ : String) (cs_ : List va_W) => C_ = "java/lang/IllegalStateException" ∧ cs_ = []) := by
  refine Mx.of (by decide) (Nat.le_of_ble_eq_true rfl) (fun X hX hR hT => ?_)
  refine g_lv1 (lv1 := [(0, .int 0)]) rfl ?_
  refine g_iload_n hX (pc := 0) dX1_checkState_0 0 rfl ?_
  refine g_if_ne hX (pc := 1) (tgt := 12) dX1_checkState_1 rfl (fun c1 => ?_) (fun c1 => ?_)
  · exact absurd c1 (by decide)
  · refine gx_throw0 hX (pc := 4) hR hT hl0 (cls := "java/lang/IllegalStateException") (names := ["java/lang/RuntimeException", "java/lang/Exception"]) (ik := 23) (ic := 25) (by decide +kernel) (by decide +kernel) q1271 q82 (at0_S hX) gd0_S dX1_checkState_4 dX1_checkState_7 dX1_checkState_8 dX1_checkState_11 (Nat.le_of_ble_eq_true rfl) (Nat.le_of_ble_eq_true rfl) (Nat.le_of_ble_eq_true rfl) (Nat.le_of_ble_eq_true rfl) ⟨rfl, rfl⟩

set_option maxHeartbeats 4000000 in
theorem mt_checkPlace (E : EE) (l : Launch) (i : Int32) (c : Int32) (h0 : (¬ i < 0)) (h1 : (i < c)) : Mt E l yX1_checkPlace cX1_checkPlace 2 none 1 0 0 1 [.int i, .int c] [] (fun (v_ : Option Value) (cs_ : List va_W) => v_ = none ∧ cs_ = []) := by
  refine Mt.of (by decide) (Nat.le_of_ble_eq_true rfl) (fun X hX hR hin => ?_)
  refine g_lv1 (lv1 := [(0, .int i), (1, .int c)]) rfl ?_
  refine g_iload_n hX (pc := 0) dX1_checkPlace_0 0 rfl ?_
  refine g_if_lt hX (pc := 1) (tgt := 9) dX1_checkPlace_1 rfl (fun c1 => ?_) (fun c1 => ?_)
  · exact absurd c1 h0
  · refine g_iload_n hX (pc := 4) dX1_checkPlace_4 0 rfl ?_
    refine g_iload_n hX (pc := 5) dX1_checkPlace_5 1 rfl ?_
    refine g_icmp_lt hX (pc := 6) (tgt := 17) dX1_checkPlace_6 rfl (fun c2 => ?_) (fun c2 => ?_)
    · refine g_vret hX (pc := 17) hR ?_ (Nat.le_of_ble_eq_true rfl) (Nat.le_of_ble_eq_true rfl) dX1_checkPlace_17
      exact ⟨rfl, rfl⟩
    · exact absurd h1 c2

set_option maxHeartbeats 4000000 in
theorem mx_checkPlace (E : EE) (l : Launch) (hl0 : l.stackTraces = false) (i : Int32) (c : Int32) (hb : (i < 0 ∨ ¬ i < c)) : Mx E l yX1_checkPlace cX1_checkPlace 2 none 6 1 6 81 [.int i, .int c] [] (fun (_ : Option Value) (_ : List va_W) => False) (fun (C_ : String) (cs_ : List va_W) => C_ = "java/lang/IndexOutOfBoundsException" ∧ cs_ = []) := by
  refine Mx.of (by decide) (Nat.le_of_ble_eq_true rfl) (fun X hX hR hT => ?_)
  refine g_lv1 (lv1 := [(0, .int i), (1, .int c)]) rfl ?_
  refine g_iload_n hX (pc := 0) dX1_checkPlace_0 0 rfl ?_
  refine g_if_lt hX (pc := 1) (tgt := 9) dX1_checkPlace_1 rfl (fun c1 => ?_) (fun c1 => ?_)
  · refine gx_throw0 hX (pc := 9) hR hT hl0 (cls := "java/lang/IndexOutOfBoundsException") (names := ["java/lang/RuntimeException", "java/lang/Exception"]) (ik := 26) (ic := 28) (by decide +kernel) (by decide +kernel) q1367 q94 (at0_P hX) gd0_P dX1_checkPlace_9 dX1_checkPlace_12 dX1_checkPlace_13 dX1_checkPlace_16 (Nat.le_of_ble_eq_true rfl) (Nat.le_of_ble_eq_true rfl) (Nat.le_of_ble_eq_true rfl) (Nat.le_of_ble_eq_true rfl) ⟨rfl, rfl⟩
  · refine g_iload_n hX (pc := 4) dX1_checkPlace_4 0 rfl ?_
    refine g_iload_n hX (pc := 5) dX1_checkPlace_5 1 rfl ?_
    refine g_icmp_lt hX (pc := 6) (tgt := 17) dX1_checkPlace_6 rfl (fun c2 => ?_) (fun c2 => ?_)
    · exact (hb.elim c1 (fun z => z c2)).elim
    · refine gx_throw0 hX (pc := 9) hR hT hl0 (cls := "java/lang/IndexOutOfBoundsException") (names := ["java/lang/RuntimeException", "java/lang/Exception"]) (ik := 26) (ic := 28) (by decide +kernel) (by decide +kernel) q1367 q94 (at0_P hX) gd0_P dX1_checkPlace_9 dX1_checkPlace_12 dX1_checkPlace_13 dX1_checkPlace_16 (Nat.le_of_ble_eq_true rfl) (Nat.le_of_ble_eq_true rfl) (Nat.le_of_ble_eq_true rfl) (Nat.le_of_ble_eq_true rfl) ⟨rfl, rfl⟩

set_option maxHeartbeats 4000000 in
theorem mt_mustBeIn (E : EE) (l : Launch) (v : Int32) (a : Int32) (b : Int32) (h0 : (¬ v < a)) (h1 : (¬ b < v)) : Mt E l yX1_mustBeIn cX1_mustBeIn 3 none 2 0 0 21 [.int v, .int a, .int b] [] (fun (v_ : Option Value) (cs_ : List va_W) => v_ = none ∧ cs_ = []) := by
  refine Mt.of (by decide) (Nat.le_of_ble_eq_true rfl) (fun X hX hR hin => ?_)
  refine g_lv1 (lv1 := [(0, .int v), (1, .int a), (2, .int b)]) rfl ?_
  refine g_iload_n hX (pc := 0) dX1_mustBeIn_0 0 rfl ?_
  refine g_iload_n hX (pc := 1) dX1_mustBeIn_1 1 rfl ?_
  refine g_val (v := if v < a then 0 else (if b < v then 0 else 1)) (pcJ := 15) (st1 := []) (fun hj1 => ?_) ?_
  · refine g_icmp_lt hX (pc := 2) (tgt := 14) dX1_mustBeIn_2 rfl (fun c2 => ?_) (fun c2 => ?_)
    · refine g_iconst hX (pc := 14) (v := 0) dX1_mustBeIn_14 (by decide) ?_
      exact hj1 _ (by rw [if_pos c2])
    · refine g_iload_n hX (pc := 5) dX1_mustBeIn_5 0 rfl ?_
      refine g_iload_n hX (pc := 6) dX1_mustBeIn_6 2 rfl ?_
      refine g_icmp_gt hX (pc := 7) (tgt := 14) dX1_mustBeIn_7 rfl (fun c3 => ?_) (fun c3 => ?_)
      · refine g_iconst hX (pc := 14) (v := 0) dX1_mustBeIn_14 (by decide) ?_
        exact hj1 _ (by rw [if_neg c2, if_pos c3])
      · refine g_iconst hX (pc := 10) (v := 1) dX1_mustBeIn_10 (by decide) ?_
        refine g_goto hX (pc := 11) (tgt := 15) dX1_mustBeIn_11 rfl ?_
        exact hj1 _ (by rw [if_neg c2, if_neg c3])
  refine g_eqi 1 (by simp [h0, h1]) ?_
  refine g_callS hX (pc := 15) kX1_must (mt_must E l ) q1311 [] rfl rfl rfl (Nat.le_of_ble_eq_true rfl) (Nat.le_of_ble_eq_true rfl) (Nat.le_of_ble_eq_true rfl) (Nat.le_of_ble_eq_true rfl) (Nat.le_of_ble_eq_true rfl) dX1_mustBeIn_15 (fun v w1 hp => ?_)
  obtain ⟨rfl, rfl⟩ := hp
  refine g_nrm (cs1 := []) (st1 := []) rfl rfl ?_
  refine g_vret hX (pc := 18) hR ?_ (Nat.le_of_ble_eq_true rfl) (Nat.le_of_ble_eq_true rfl) dX1_mustBeIn_18
  exact ⟨rfl, rfl⟩

set_option maxHeartbeats 4000000 in
theorem mx_mustBeIn (E : EE) (l : Launch) (hl0 : l.stackTraces = false) (v : Int32) (a : Int32) (b : Int32) (hb : (v < a ∨ b < v)) : Mx E l yX1_mustBeIn cX1_mustBeIn 3 none 7 1 6 101 [.int v, .int a, .int b] [] (fun (_ : Option Value) (_ : List va_W) => False) (fun (C_ : String) (cs_ : List va_W) => C_ = "java/lang/IllegalArgumentException" ∧ cs_ = []) := by
  refine Mx.of (by decide) (Nat.le_of_ble_eq_true rfl) (fun X hX hR hT => ?_)
  refine g_lv1 (lv1 := [(0, .int v), (1, .int a), (2, .int b)]) rfl ?_
  refine g_iload_n hX (pc := 0) dX1_mustBeIn_0 0 rfl ?_
  refine g_iload_n hX (pc := 1) dX1_mustBeIn_1 1 rfl ?_
  refine g_val (v := if v < a then 0 else (if b < v then 0 else 1)) (pcJ := 15) (st1 := []) (fun hj1 => ?_) ?_
  · refine g_icmp_lt hX (pc := 2) (tgt := 14) dX1_mustBeIn_2 rfl (fun c2 => ?_) (fun c2 => ?_)
    · refine g_iconst hX (pc := 14) (v := 0) dX1_mustBeIn_14 (by decide) ?_
      exact hj1 _ (by rw [if_pos c2])
    · refine g_iload_n hX (pc := 5) dX1_mustBeIn_5 0 rfl ?_
      refine g_iload_n hX (pc := 6) dX1_mustBeIn_6 2 rfl ?_
      refine g_icmp_gt hX (pc := 7) (tgt := 14) dX1_mustBeIn_7 rfl (fun c3 => ?_) (fun c3 => ?_)
      · refine g_iconst hX (pc := 14) (v := 0) dX1_mustBeIn_14 (by decide) ?_
        exact hj1 _ (by rw [if_neg c2, if_pos c3])
      · refine g_iconst hX (pc := 10) (v := 1) dX1_mustBeIn_10 (by decide) ?_
        refine g_goto hX (pc := 11) (tgt := 15) dX1_mustBeIn_11 rfl ?_
        exact hj1 _ (by rw [if_neg c2, if_neg c3])
  refine g_eqi 0 (by rcases hb with h | h <;> simp [h]) ?_
  refine gx_callS hX (pc := 15) kX1_must (mx_must E l hl0 ) q1311 [] rfl rfl rfl (Nat.le_of_ble_eq_true rfl) (Nat.le_of_ble_eq_true rfl) (Nat.le_of_ble_eq_true rfl) (Nat.le_of_ble_eq_true rfl) (Nat.le_of_ble_eq_true rfl) dX1_mustBeIn_15 (fun C q w1 hp => ?_) (fun v w1 hp => hp.elim)
  obtain ⟨rfl, rfl⟩ := hp
  exact gx_out hX hR hT (Nat.le_of_ble_eq_true rfl) (Nat.le_of_ble_eq_true rfl) ⟨rfl, rfl⟩

set_option maxHeartbeats 4000000 in
theorem mt_isIn (E : EE) (l : Launch) (v : Int32) (a : Int32) (b : Int32) : Mt E l yX1_isIn cX1_isIn 3 (some .boolean) 1 0 0 1 [.int v, .int a, .int b] [] (fun (v_ : Option Value) (cs_ : List va_W) => v_ = some (.int (if v < a ∨ b < v then 0 else 1)) ∧ cs_ = []) := by
  refine Mt.of (by decide) (Nat.le_of_ble_eq_true rfl) (fun X hX hR hin => ?_)
  refine g_lv1 (lv1 := [(0, .int v), (1, .int a), (2, .int b)]) rfl ?_
  refine g_iload_n hX (pc := 0) dX1_isIn_0 0 rfl ?_
  refine g_iload_n hX (pc := 1) dX1_isIn_1 1 rfl ?_
  refine g_val (v := if v < a then 0 else (if b < v then 0 else 1)) (pcJ := 15) (st1 := []) (fun hj1 => ?_) ?_
  · refine g_icmp_lt hX (pc := 2) (tgt := 14) dX1_isIn_2 rfl (fun c2 => ?_) (fun c2 => ?_)
    · refine g_iconst hX (pc := 14) (v := 0) dX1_isIn_14 (by decide) ?_
      exact hj1 _ (by rw [if_pos c2])
    · refine g_iload_n hX (pc := 5) dX1_isIn_5 0 rfl ?_
      refine g_iload_n hX (pc := 6) dX1_isIn_6 2 rfl ?_
      refine g_icmp_gt hX (pc := 7) (tgt := 14) dX1_isIn_7 rfl (fun c3 => ?_) (fun c3 => ?_)
      · refine g_iconst hX (pc := 14) (v := 0) dX1_isIn_14 (by decide) ?_
        exact hj1 _ (by rw [if_neg c2, if_pos c3])
      · refine g_iconst hX (pc := 10) (v := 1) dX1_isIn_10 (by decide) ?_
        refine g_goto hX (pc := 11) (tgt := 15) dX1_isIn_11 rfl ?_
        exact hj1 _ (by rw [if_neg c2, if_neg c3])
  refine g_zret hX (pc := 15) hR (by (repeat' split) <;> rfl) ?_ (Nat.le_of_ble_eq_true rfl) (Nat.le_of_ble_eq_true rfl) dX1_isIn_15
  refine ⟨?_, rfl⟩
  by_cases h1 : v < a <;> by_cases h2 : b < v <;> simp [h1, h2]

set_option maxHeartbeats 4000000 in
theorem mt_Q_machineAt (E : EE) (l : Launch) (o : Nat) (n : Nat) (lm : Nat) (lb : Nat) (lr : Nat) (lo : Int32) (nw : Int32) (mas : List Nat) (wm : va_W) (k : Nat) (m : Nat) (M : PM) (wk : va_W) (fz : va_W) (hAm : AL E lm mas wm) (hM : IsMach E fz m M wk) (hk : (mas[k]? = some m)) (hl5 : (mas.length ≤ 5)) : Mt E l yX1_machineAt cX1_machineAt 2 (some (.object "Quorumspire$Machine")) 5 0 0 86 [.ref o, .int (nI k)] [[(o, ob 0 [.ref n])], [(n, ob 1 [.ref lm, .ref lb, .ref lr, .int lo, .int nw])], wm, wk] (fun (v_ : Option Value) (cs_ : List va_W) => v_ = some (.ref m) ∧ cs_ = [[(o, ob 0 [.ref n])], [(n, ob 1 [.ref lm, .ref lb, .ref lr, .int lo, .int nw])], wm, wk]) := by
  have hkl : k < mas.length := (List.getElem?_eq_some_iff.mp hk).1
  refine Mt.of (by decide) (Nat.le_of_ble_eq_true rfl) (fun X hX hR hin => ?_)
  refine g_lv1 (lv1 := [(0, .ref o), (1, .int (nI k))]) rfl ?_
  refine g_iload_n hX (pc := 0) dX1_machineAt_0 1 rfl ?_
  refine g_aload_n hX (pc := 1) dX1_machineAt_1 0 rfl ?_
  refine g_get hX (pc := 2) fcX1 0 rfl 0 (by decide) q176 rfl (v := .ref n) rfl dX1_machineAt_2 ?_
  refine g_getN hX (pc := 5) fcX2 1 rfl 0 (by decide) q156 rfl (v := .ref lm) rfl dX1_machineAt_5 ?_
  obtain ⟨fs1, hm2⟩ := AL.head hAm
  refine g_callF hX (pc := 8) kfJ2_size (mt_AL_size E l lm mas wm hAm) q738 fcJ2 (sp_in 2 rfl hm2) [2] rfl rfl rfl (Nat.le_of_ble_eq_true rfl) (Nat.le_of_ble_eq_true rfl) (Nat.le_of_ble_eq_true rfl) (Nat.le_of_ble_eq_true rfl) (Nat.le_of_ble_eq_true rfl) dX1_machineAt_8 (fun v w1 hp => ?_)
  obtain ⟨rfl, rfl⟩ := hp
  refine g_nrm (cs1 := [wm, [(o, ob 0 [.ref n])], [(n, ob 1 [.ref lm, .ref lb, .ref lr, .int lo, .int nw])], wk]) (st1 := [.int (nI (List.length mas)), .int (nI k)]) rfl rfl ?_
  refine g_callS hX (pc := 13) kX1_checkPlace (mt_checkPlace E l (nI k) (nI (List.length mas)) (nI_pos (by omega)) (nI_lt hkl (by omega))) q1364 [] rfl rfl rfl (Nat.le_of_ble_eq_true rfl) (Nat.le_of_ble_eq_true rfl) (Nat.le_of_ble_eq_true rfl) (Nat.le_of_ble_eq_true rfl) (Nat.le_of_ble_eq_true rfl) dX1_machineAt_13 (fun v w1 hp => ?_)
  obtain ⟨rfl, rfl⟩ := hp
  refine g_nrm (cs1 := [wm, [(o, ob 0 [.ref n])], [(n, ob 1 [.ref lm, .ref lb, .ref lr, .int lo, .int nw])], wk]) (st1 := []) rfl rfl ?_
  refine g_aload_n hX (pc := 16) dX1_machineAt_16 0 rfl ?_
  refine g_get hX (pc := 17) fcX1 1 rfl 0 (by decide) q176 rfl (v := .ref n) rfl dX1_machineAt_17 ?_
  refine g_iload_n hX (pc := 20) dX1_machineAt_20 1 rfl ?_
  refine g_callV hX (pc := 21) kX2_at (mt_Net_at E l n lm lb lr lo nw mas wm k m M fz wk hAm hM (hk)) q780 fcX2 (sp_mem (i := 2) rfl) [2, 0, 1] rfl rfl rfl (Nat.le_of_ble_eq_true rfl) (Nat.le_of_ble_eq_true rfl) (Nat.le_of_ble_eq_true rfl) (Nat.le_of_ble_eq_true rfl) (Nat.le_of_ble_eq_true rfl) dX1_machineAt_21 (fun v w1 hp => ?_)
  obtain ⟨rfl, rfl⟩ := hp
  refine g_nrm (cs1 := [[(n, ob 1 [.ref lm, .ref lb, .ref lr, .int lo, .int nw])], wm, wk, [(o, ob 0 [.ref n])]]) (st1 := [.ref m]) rfl rfl ?_
  refine g_pk [3, 0, 0, 0] rfl ?_
  refine g_cs (cs1 := [[(o, ob 0 [.ref n])], [(n, ob 1 [.ref lm, .ref lb, .ref lr, .int lo, .int nw])], wm, wk]) rfl ?_
  refine g_aret hX (pc := 24) hR (by first | exact Or.inl ⟨_, rfl⟩ | exact Or.inr ⟨_, rfl⟩) ?_ (Nat.le_of_ble_eq_true rfl) (Nat.le_of_ble_eq_true rfl) dX1_machineAt_24
  exact ⟨rfl, rfl⟩

set_option maxHeartbeats 4000000 in
theorem mt_Q_upAt (E : EE) (l : Launch) (o : Nat) (n : Nat) (lm : Nat) (lb : Nat) (lr : Nat) (lo : Int32) (nw : Int32) (mas : List Nat) (wm : va_W) (k : Nat) (m : Nat) (M : PM) (wk : va_W) (fz : va_W) (hAm : AL E lm mas wm) (hM : IsMach E fz m M wk) (hk : (mas[k]? = some m)) (hl5 : (mas.length ≤ 5)) (hu : (¬ mR M = 0)) : Mt E l yX1_upAt cX1_upAt 3 (some (.object "Quorumspire$Machine")) 6 0 0 107 [.ref o, .int (nI k)] [[(o, ob 0 [.ref n])], [(n, ob 1 [.ref lm, .ref lb, .ref lr, .int lo, .int nw])], wm, wk] (fun (v_ : Option Value) (cs_ : List va_W) => v_ = some (.ref m) ∧ cs_ = [[(o, ob 0 [.ref n])], [(n, ob 1 [.ref lm, .ref lb, .ref lr, .int lo, .int nw])], wm, wk]) := by
  refine Mt.of (by decide) (Nat.le_of_ble_eq_true rfl) (fun X hX hR hin => ?_)
  refine g_lv1 (lv1 := [(0, .ref o), (1, .int (nI k))]) rfl ?_
  refine g_aload_n hX (pc := 0) dX1_upAt_0 0 rfl ?_
  refine g_iload_n hX (pc := 1) dX1_upAt_1 1 rfl ?_
  refine g_callV hX (pc := 2) kX1_machineAt (mt_Q_machineAt E l o n lm lb lr lo nw mas wm k m M wk fz hAm hM (hk) (hl5)) q1360 fcX1 (sp_mem (i := 0) rfl) [0, 0, 0, 0] rfl rfl rfl (Nat.le_of_ble_eq_true rfl) (Nat.le_of_ble_eq_true rfl) (Nat.le_of_ble_eq_true rfl) (Nat.le_of_ble_eq_true rfl) (Nat.le_of_ble_eq_true rfl) dX1_upAt_2 (fun v w1 hp => ?_)
  obtain ⟨rfl, rfl⟩ := hp
  refine g_nrm (cs1 := [[(o, ob 0 [.ref n])], [(n, ob 1 [.ref lm, .ref lb, .ref lr, .int lo, .int nw])], wm, wk]) (st1 := [.ref m]) rfl rfl ?_
  refine g_astore_n hX (pc := 5) (lv1 := [(2, .ref m), (0, .ref o), (1, .int (nI k))]) dX1_upAt_5 (by decide) rfl ?_
  refine g_aload_n hX (pc := 6) dX1_upAt_6 0 rfl ?_
  obtain ⟨fs1, hm2⟩ := IsMach.head hM
  refine g_callV hX (pc := 7) kX9_isUp (mt_Machine_isUpM E l m M wk fz hM) q1035 fcX9 (sp_in 3 rfl hm2) [3] rfl rfl rfl (Nat.le_of_ble_eq_true rfl) (Nat.le_of_ble_eq_true rfl) (Nat.le_of_ble_eq_true rfl) (Nat.le_of_ble_eq_true rfl) (Nat.le_of_ble_eq_true rfl) dX1_upAt_7 (fun v w1 hp => ?_)
  obtain ⟨rfl, rfl⟩ := hp
  refine g_nrm (cs1 := [wk, [(o, ob 0 [.ref n])], [(n, ob 1 [.ref lm, .ref lb, .ref lr, .int lo, .int nw])], wm]) (st1 := [.int (if mR M = 0 then 0 else 1)]) rfl rfl ?_
  refine g_eqi 1 (if_neg hu) ?_
  refine g_callS hX (pc := 10) kX1_checkState (mt_checkState E l ) q1268 [] rfl rfl rfl (Nat.le_of_ble_eq_true rfl) (Nat.le_of_ble_eq_true rfl) (Nat.le_of_ble_eq_true rfl) (Nat.le_of_ble_eq_true rfl) (Nat.le_of_ble_eq_true rfl) dX1_upAt_10 (fun v w1 hp => ?_)
  obtain ⟨rfl, rfl⟩ := hp
  refine g_nrm (cs1 := [wk, [(o, ob 0 [.ref n])], [(n, ob 1 [.ref lm, .ref lb, .ref lr, .int lo, .int nw])], wm]) (st1 := []) rfl rfl ?_
  refine g_aload_n hX (pc := 13) dX1_upAt_13 0 rfl ?_
  refine g_pk [1, 1, 1, 0] rfl ?_
  refine g_cs (cs1 := [[(o, ob 0 [.ref n])], [(n, ob 1 [.ref lm, .ref lb, .ref lr, .int lo, .int nw])], wm, wk]) rfl ?_
  refine g_aret hX (pc := 14) hR (by first | exact Or.inl ⟨_, rfl⟩ | exact Or.inr ⟨_, rfl⟩) ?_ (Nat.le_of_ble_eq_true rfl) (Nat.le_of_ble_eq_true rfl) dX1_upAt_14
  exact ⟨rfl, rfl⟩

set_option maxHeartbeats 4000000 in
theorem mt_Q_machineAtI (E : EE) (l : Launch) (o : Nat) (n : Nat) (lm : Nat) (lb : Nat) (lr : Nat) (lo : Int32) (nw : Int32) (mas : List Nat) (wm : va_W) (k : Nat) (m : Nat) (M : PM) (fz : va_W) (wM : va_W) (hAm : AL E lm mas wm) (hMI : MachIn E fz m M wM) (hk : (mas[k]? = some m)) (hl5 : (mas.length ≤ 5)) : Mt E l yX1_machineAt cX1_machineAt 2 (some (.object "Quorumspire$Machine")) 5 0 0 86 [.ref o, .int (nI k)] [[(o, ob 0 [.ref n])], [(n, ob 1 [.ref lm, .ref lb, .ref lr, .int lo, .int nw])], wm, wM] (fun (v_ : Option Value) (cs_ : List va_W) => v_ = some (.ref m) ∧ cs_ = [[(o, ob 0 [.ref n])], [(n, ob 1 [.ref lm, .ref lb, .ref lr, .int lo, .int nw])], wm, wM]) := by
  have hkl : k < mas.length := (List.getElem?_eq_some_iff.mp hk).1
  refine Mt.of (by decide) (Nat.le_of_ble_eq_true rfl) (fun X hX hR hin => ?_)
  refine g_lv1 (lv1 := [(0, .ref o), (1, .int (nI k))]) rfl ?_
  refine g_iload_n hX (pc := 0) dX1_machineAt_0 1 rfl ?_
  refine g_aload_n hX (pc := 1) dX1_machineAt_1 0 rfl ?_
  refine g_get hX (pc := 2) fcX1 0 rfl 0 (by decide) q176 rfl (v := .ref n) rfl dX1_machineAt_2 ?_
  refine g_getN hX (pc := 5) fcX2 1 rfl 0 (by decide) q156 rfl (v := .ref lm) rfl dX1_machineAt_5 ?_
  obtain ⟨fs1, hm2⟩ := AL.head hAm
  refine g_callF hX (pc := 8) kfJ2_size (mt_AL_size E l lm mas wm hAm) q738 fcJ2 (sp_in 2 rfl hm2) [2] rfl rfl rfl (Nat.le_of_ble_eq_true rfl) (Nat.le_of_ble_eq_true rfl) (Nat.le_of_ble_eq_true rfl) (Nat.le_of_ble_eq_true rfl) (Nat.le_of_ble_eq_true rfl) dX1_machineAt_8 (fun v w1 hp => ?_)
  obtain ⟨rfl, rfl⟩ := hp
  refine g_nrm (cs1 := [wm, [(o, ob 0 [.ref n])], [(n, ob 1 [.ref lm, .ref lb, .ref lr, .int lo, .int nw])], wM]) (st1 := [.int (nI (List.length mas)), .int (nI k)]) rfl rfl ?_
  refine g_callS hX (pc := 13) kX1_checkPlace (mt_checkPlace E l (nI k) (nI (List.length mas)) (nI_pos (by omega)) (nI_lt hkl (by omega))) q1364 [] rfl rfl rfl (Nat.le_of_ble_eq_true rfl) (Nat.le_of_ble_eq_true rfl) (Nat.le_of_ble_eq_true rfl) (Nat.le_of_ble_eq_true rfl) (Nat.le_of_ble_eq_true rfl) dX1_machineAt_13 (fun v w1 hp => ?_)
  obtain ⟨rfl, rfl⟩ := hp
  refine g_nrm (cs1 := [wm, [(o, ob 0 [.ref n])], [(n, ob 1 [.ref lm, .ref lb, .ref lr, .int lo, .int nw])], wM]) (st1 := []) rfl rfl ?_
  refine g_aload_n hX (pc := 16) dX1_machineAt_16 0 rfl ?_
  refine g_get hX (pc := 17) fcX1 1 rfl 0 (by decide) q176 rfl (v := .ref n) rfl dX1_machineAt_17 ?_
  refine g_iload_n hX (pc := 20) dX1_machineAt_20 1 rfl ?_
  refine g_callV hX (pc := 21) kX2_at (mt_Net_atP E l n lm lb lr lo nw mas wm k m M fz wM hAm hMI (hk)) q780 fcX2 (sp_mem (i := 2) rfl) [2, 0, 1] rfl rfl rfl (Nat.le_of_ble_eq_true rfl) (Nat.le_of_ble_eq_true rfl) (Nat.le_of_ble_eq_true rfl) (Nat.le_of_ble_eq_true rfl) (Nat.le_of_ble_eq_true rfl) dX1_machineAt_21 (fun v w1 hp => ?_)
  obtain ⟨rfl, rfl⟩ := hp
  refine g_nrm (cs1 := [[(n, ob 1 [.ref lm, .ref lb, .ref lr, .int lo, .int nw])], wm, wM, [(o, ob 0 [.ref n])]]) (st1 := [.ref m]) rfl rfl ?_
  refine g_pk [3, 0, 0, 0] rfl ?_
  refine g_cs (cs1 := [[(o, ob 0 [.ref n])], [(n, ob 1 [.ref lm, .ref lb, .ref lr, .int lo, .int nw])], wm, wM]) rfl ?_
  refine g_aret hX (pc := 24) hR (by first | exact Or.inl ⟨_, rfl⟩ | exact Or.inr ⟨_, rfl⟩) ?_ (Nat.le_of_ble_eq_true rfl) (Nat.le_of_ble_eq_true rfl) dX1_machineAt_24
  exact ⟨rfl, rfl⟩

set_option maxHeartbeats 4000000 in
theorem mx_Q_machineAt (E : EE) (l : Launch) (hl0 : l.stackTraces = false) (o : Nat) (n : Nat) (lm : Nat) (lb : Nat) (lr : Nat) (lo : Int32) (nw : Int32) (mas : List Nat) (wm : va_W) (i : Int32) (hAm : AL E lm mas wm) (hb : (i < 0 ∨ ¬ i < nI (List.length mas))) : Mx E l yX1_machineAt cX1_machineAt 2 (some (.object "Quorumspire$Machine")) 7 1 6 102 [.ref o, .int i] [[(o, ob 0 [.ref n])], [(n, ob 1 [.ref lm, .ref lb, .ref lr, .int lo, .int nw])], wm] (fun (_ : Option Value) (_ : List va_W) => False) (fun (C_ : String) (cs_ : List va_W) => C_ = "java/lang/IndexOutOfBoundsException" ∧ cs_ = [[(o, ob 0 [.ref n])], [(n, ob 1 [.ref lm, .ref lb, .ref lr, .int lo, .int nw])], wm]) := by
  refine Mx.of (by decide) (Nat.le_of_ble_eq_true rfl) (fun X hX hR hT => ?_)
  refine g_lv1 (lv1 := [(0, .ref o), (1, .int i)]) rfl ?_
  refine g_iload_n hX (pc := 0) dX1_machineAt_0 1 rfl ?_
  refine g_aload_n hX (pc := 1) dX1_machineAt_1 0 rfl ?_
  refine g_get hX (pc := 2) fcX1 0 rfl 0 (by decide) q176 rfl (v := .ref n) rfl dX1_machineAt_2 ?_
  refine g_getN hX (pc := 5) fcX2 1 rfl 0 (by decide) q156 rfl (v := .ref lm) rfl dX1_machineAt_5 ?_
  obtain ⟨fs1, hm2⟩ := AL.head hAm
  refine g_callF hX (pc := 8) kfJ2_size (mt_AL_size E l lm mas wm hAm) q738 fcJ2 (sp_in 2 rfl hm2) [2] rfl rfl rfl (Nat.le_of_ble_eq_true rfl) (Nat.le_of_ble_eq_true rfl) (Nat.le_of_ble_eq_true rfl) (Nat.le_of_ble_eq_true rfl) (Nat.le_of_ble_eq_true rfl) dX1_machineAt_8 (fun v w1 hp => ?_)
  obtain ⟨rfl, rfl⟩ := hp
  refine g_nrm (cs1 := [wm, [(o, ob 0 [.ref n])], [(n, ob 1 [.ref lm, .ref lb, .ref lr, .int lo, .int nw])]]) (st1 := [.int (nI (List.length mas)), .int i]) rfl rfl ?_
  refine gx_callS hX (pc := 13) kX1_checkPlace (mx_checkPlace E l hl0 i (nI (List.length mas)) (hb)) q1364 [] rfl rfl rfl (Nat.le_of_ble_eq_true rfl) (Nat.le_of_ble_eq_true rfl) (Nat.le_of_ble_eq_true rfl) (Nat.le_of_ble_eq_true rfl) (Nat.le_of_ble_eq_true rfl) dX1_machineAt_13 (fun C q w1 hp => ?_) (fun v w1 hp => hp.elim)
  obtain ⟨rfl, rfl⟩ := hp
  refine gx_pk [1, 1, 0] rfl ?_
  exact gx_out hX hR hT (Nat.le_of_ble_eq_true rfl) (Nat.le_of_ble_eq_true rfl) ⟨rfl, rfl⟩

set_option maxHeartbeats 4000000 in
theorem mx_Q_upAtP (E : EE) (l : Launch) (hl0 : l.stackTraces = false) (o : Nat) (n : Nat) (lm : Nat) (lb : Nat) (lr : Nat) (lo : Int32) (nw : Int32) (mas : List Nat) (wm : va_W) (i : Int32) (hAm : AL E lm mas wm) (hb : (i < 0 ∨ ¬ i < nI (List.length mas))) : Mx E l yX1_upAt cX1_upAt 3 (some (.object "Quorumspire$Machine")) 8 1 6 123 [.ref o, .int i] [[(o, ob 0 [.ref n])], [(n, ob 1 [.ref lm, .ref lb, .ref lr, .int lo, .int nw])], wm] (fun (_ : Option Value) (_ : List va_W) => False) (fun (C_ : String) (cs_ : List va_W) => C_ = "java/lang/IndexOutOfBoundsException" ∧ cs_ = [[(o, ob 0 [.ref n])], [(n, ob 1 [.ref lm, .ref lb, .ref lr, .int lo, .int nw])], wm]) := by
  refine Mx.of (by decide) (Nat.le_of_ble_eq_true rfl) (fun X hX hR hT => ?_)
  refine g_lv1 (lv1 := [(0, .ref o), (1, .int i)]) rfl ?_
  refine g_aload_n hX (pc := 0) dX1_upAt_0 0 rfl ?_
  refine g_iload_n hX (pc := 1) dX1_upAt_1 1 rfl ?_
  refine gx_callV hX (pc := 2) kX1_machineAt (mx_Q_machineAt E l hl0 o n lm lb lr lo nw mas wm i hAm (hb)) q1360 fcX1 (sp_mem (i := 0) rfl) [0, 0, 0] rfl rfl rfl (Nat.le_of_ble_eq_true rfl) (Nat.le_of_ble_eq_true rfl) (Nat.le_of_ble_eq_true rfl) (Nat.le_of_ble_eq_true rfl) (Nat.le_of_ble_eq_true rfl) dX1_upAt_2 (fun C q w1 hp => ?_) (fun v w1 hp => hp.elim)
  obtain ⟨rfl, rfl⟩ := hp
  exact gx_out hX hR hT (Nat.le_of_ble_eq_true rfl) (Nat.le_of_ble_eq_true rfl) ⟨rfl, rfl⟩

set_option maxHeartbeats 4000000 in
theorem mx_Q_upAtS (E : EE) (l : Launch) (hl0 : l.stackTraces = false) (o : Nat) (n : Nat) (lm : Nat) (lb : Nat) (lr : Nat) (lo : Int32) (nw : Int32) (mas : List Nat) (wm : va_W) (k : Nat) (m : Nat) (M : PM) (fz : va_W) (wM : va_W) (hAm : AL E lm mas wm) (hMI : MachIn E fz m M wM) (hk : (mas[k]? = some m)) (hl5 : (mas.length ≤ 5)) (hd : (mR M = 0)) : Mx E l yX1_upAt cX1_upAt 3 (some (.object "Quorumspire$Machine")) 7 1 6 107 [.ref o, .int (nI k)] [[(o, ob 0 [.ref n])], [(n, ob 1 [.ref lm, .ref lb, .ref lr, .int lo, .int nw])], wm, wM] (fun (_ : Option Value) (_ : List va_W) => False) (fun (C_ : String) (cs_ : List va_W) => C_ = "java/lang/IllegalStateException" ∧ cs_ = [[(o, ob 0 [.ref n])], [(n, ob 1 [.ref lm, .ref lb, .ref lr, .int lo, .int nw])], wm, wM]) := by
  refine Mx.of (by decide) (Nat.le_of_ble_eq_true rfl) (fun X hX hR hT => ?_)
  refine g_lv1 (lv1 := [(0, .ref o), (1, .int (nI k))]) rfl ?_
  refine g_aload_n hX (pc := 0) dX1_upAt_0 0 rfl ?_
  refine g_iload_n hX (pc := 1) dX1_upAt_1 1 rfl ?_
  refine g_callV hX (pc := 2) kX1_machineAt (mt_Q_machineAtI E l o n lm lb lr lo nw mas wm k m M fz wM hAm hMI (hk) (hl5)) q1360 fcX1 (sp_mem (i := 0) rfl) [0, 0, 0, 0] rfl rfl rfl (Nat.le_of_ble_eq_true rfl) (Nat.le_of_ble_eq_true rfl) (Nat.le_of_ble_eq_true rfl) (Nat.le_of_ble_eq_true rfl) (Nat.le_of_ble_eq_true rfl) dX1_upAt_2 (fun v w1 hp => ?_)
  obtain ⟨rfl, rfl⟩ := hp
  refine g_nrm (cs1 := [[(o, ob 0 [.ref n])], [(n, ob 1 [.ref lm, .ref lb, .ref lr, .int lo, .int nw])], wm, wM]) (st1 := [.ref m]) rfl rfl ?_
  refine g_astore_n hX (pc := 5) (lv1 := [(2, .ref m), (0, .ref o), (1, .int (nI k))]) dX1_upAt_5 (by decide) rfl ?_
  obtain ⟨rn1, rk2, rl3, rs4, rst5, la6, sp7, lb8, sp29, fn10, fk11, m012, arr13, m114, arr115, h116, h217, h318, h419, h520, h621, h722, hn23⟩ := hMI.peek
  refine g_aload_n hX (pc := 6) dX1_upAt_6 0 rfl ?_
  refine g_callV hX (pc := 7) kX9_isUp (mt_Machine_isUpI E l m M fz wM hMI) q1035 fcX9 (sp_in 3 rfl h116) [3] rfl rfl rfl (Nat.le_of_ble_eq_true rfl) (Nat.le_of_ble_eq_true rfl) (Nat.le_of_ble_eq_true rfl) (Nat.le_of_ble_eq_true rfl) (Nat.le_of_ble_eq_true rfl) dX1_upAt_7 (fun v w1 hp => ?_)
  obtain ⟨rfl, rfl⟩ := hp
  refine g_nrm (cs1 := [wM, [(o, ob 0 [.ref n])], [(n, ob 1 [.ref lm, .ref lb, .ref lr, .int lo, .int nw])], wm]) (st1 := [.int (if mR M = 0 then 0 else 1)]) rfl rfl ?_
  refine g_eqi 0 (if_pos hd) ?_
  refine gx_callS hX (pc := 10) kX1_checkState (mx_checkState E l hl0 ) q1268 [] rfl rfl rfl (Nat.le_of_ble_eq_true rfl) (Nat.le_of_ble_eq_true rfl) (Nat.le_of_ble_eq_true rfl) (Nat.le_of_ble_eq_true rfl) (Nat.le_of_ble_eq_true rfl) dX1_upAt_10 (fun C q w1 hp => ?_) (fun v w1 hp => hp.elim)
  obtain ⟨rfl, rfl⟩ := hp
  refine gx_pk [1, 1, 1, 0] rfl ?_
  exact gx_out hX hR hT (Nat.le_of_ble_eq_true rfl) (Nat.le_of_ble_eq_true rfl) ⟨rfl, rfl⟩

set_option maxHeartbeats 4000000 in
theorem mt_Q_requestAt (E : EE) (l : Launch) (o : Nat) (n : Nat) (lm : Nat) (lb : Nat) (lr : Nat) (lo : Int32) (nw : Int32) (ras : List Nat) (wr : va_W) (wq : va_W) (j : Nat) (a : Nat) (r : PR) (hAr : AL E lr ras wr) (hj : (ras[j]? = some a)) (hl : (ras.length ≤ 40)) (hm : ((a, rqC E r) ∈ wq)) : Mt E l yX1_requestAt cX1_requestAt 2 (some (.object "Quorumspire$Request")) 4 0 0 65 [.ref o, .int (nI j)] [[(o, ob 0 [.ref n])], [(n, ob 1 [.ref lm, .ref lb, .ref lr, .int lo, .int nw])], wr, wq] (fun (v_ : Option Value) (cs_ : List va_W) => v_ = some (.ref a) ∧ cs_ = [[(o, ob 0 [.ref n])], [(n, ob 1 [.ref lm, .ref lb, .ref lr, .int lo, .int nw])], wr, wq]) := by
  have hjl : j < ras.length := (List.getElem?_eq_some_iff.mp hj).1
  refine Mt.of (by decide) (Nat.le_of_ble_eq_true rfl) (fun X hX hR hin => ?_)
  refine g_lv1 (lv1 := [(0, .ref o), (1, .int (nI j))]) rfl ?_
  refine g_iload_n hX (pc := 0) dX1_requestAt_0 1 rfl ?_
  refine g_aload_n hX (pc := 1) dX1_requestAt_1 0 rfl ?_
  refine g_get hX (pc := 2) fcX1 0 rfl 0 (by decide) q176 rfl (v := .ref n) rfl dX1_requestAt_2 ?_
  refine g_getN hX (pc := 5) fcX2 1 rfl 2 (by decide) q160 rfl (v := .ref lr) rfl dX1_requestAt_5 ?_
  obtain ⟨fs1, hm2⟩ := AL.head hAr
  refine g_callF hX (pc := 8) kfJ2_size (mt_AL_size E l lr ras wr hAr) q738 fcJ2 (sp_in 2 rfl hm2) [2] rfl rfl rfl (Nat.le_of_ble_eq_true rfl) (Nat.le_of_ble_eq_true rfl) (Nat.le_of_ble_eq_true rfl) (Nat.le_of_ble_eq_true rfl) (Nat.le_of_ble_eq_true rfl) dX1_requestAt_8 (fun v w1 hp => ?_)
  obtain ⟨rfl, rfl⟩ := hp
  refine g_nrm (cs1 := [wr, [(o, ob 0 [.ref n])], [(n, ob 1 [.ref lm, .ref lb, .ref lr, .int lo, .int nw])], wq]) (st1 := [.int (nI (List.length ras)), .int (nI j)]) rfl rfl ?_
  refine g_callS hX (pc := 13) kX1_checkPlace (mt_checkPlace E l (nI j) (nI (List.length ras)) (nI_pos (by omega)) (nI_lt hjl (by omega))) q1364 [] rfl rfl rfl (Nat.le_of_ble_eq_true rfl) (Nat.le_of_ble_eq_true rfl) (Nat.le_of_ble_eq_true rfl) (Nat.le_of_ble_eq_true rfl) (Nat.le_of_ble_eq_true rfl) dX1_requestAt_13 (fun v w1 hp => ?_)
  obtain ⟨rfl, rfl⟩ := hp
  refine g_nrm (cs1 := [wr, [(o, ob 0 [.ref n])], [(n, ob 1 [.ref lm, .ref lb, .ref lr, .int lo, .int nw])], wq]) (st1 := []) rfl rfl ?_
  refine g_aload_n hX (pc := 16) dX1_requestAt_16 0 rfl ?_
  refine g_get hX (pc := 17) fcX1 1 rfl 0 (by decide) q176 rfl (v := .ref n) rfl dX1_requestAt_17 ?_
  refine g_getN hX (pc := 20) fcX2 2 rfl 2 (by decide) q160 rfl (v := .ref lr) rfl dX1_requestAt_20 ?_
  refine g_iload_n hX (pc := 23) dX1_requestAt_23 1 rfl ?_
  refine g_callF hX (pc := 24) kfJ2_get (mt_AL_get E l lr ras wr j a hAr (hj)) q740 fcJ2 (sp_in 0 rfl hm2) [0] rfl rfl rfl (Nat.le_of_ble_eq_true rfl) (Nat.le_of_ble_eq_true rfl) (Nat.le_of_ble_eq_true rfl) (Nat.le_of_ble_eq_true rfl) (Nat.le_of_ble_eq_true rfl) dX1_requestAt_24 (fun v w1 hp => ?_)
  obtain ⟨rfl, rfl⟩ := hp
  refine g_nrm (cs1 := [wr, [(o, ob 0 [.ref n])], [(n, ob 1 [.ref lm, .ref lb, .ref lr, .int lo, .int nw])], wq]) (st1 := [.ref a]) rfl rfl ?_
  refine g_cast hX (pc := 29) fcX12 (sp_in 3 rfl hm) q741 dX1_requestAt_29 ?_
  refine g_pk [1, 1, 0, 0] rfl ?_
  refine g_cs (cs1 := [[(o, ob 0 [.ref n])], [(n, ob 1 [.ref lm, .ref lb, .ref lr, .int lo, .int nw])], wr, wq]) rfl ?_
  refine g_aret hX (pc := 32) hR (by first | exact Or.inl ⟨_, rfl⟩ | exact Or.inr ⟨_, rfl⟩) ?_ (Nat.le_of_ble_eq_true rfl) (Nat.le_of_ble_eq_true rfl) dX1_requestAt_32
  exact ⟨rfl, rfl⟩

set_option maxHeartbeats 4000000 in
theorem mx_Q_requestAt (E : EE) (l : Launch) (hl0 : l.stackTraces = false) (o : Nat) (n : Nat) (lm : Nat) (lb : Nat) (lr : Nat) (lo : Int32) (nw : Int32) (ras : List Nat) (wr : va_W) (i : Int32) (hAr : AL E lr ras wr) (hb : (i < 0 ∨ ¬ i < nI (List.length ras))) : Mx E l yX1_requestAt cX1_requestAt 2 (some (.object "Quorumspire$Request")) 7 1 6 102 [.ref o, .int i] [[(o, ob 0 [.ref n])], [(n, ob 1 [.ref lm, .ref lb, .ref lr, .int lo, .int nw])], wr] (fun (_ : Option Value) (_ : List va_W) => False) (fun (C_ : String) (cs_ : List va_W) => C_ = "java/lang/IndexOutOfBoundsException" ∧ cs_ = [[(o, ob 0 [.ref n])], [(n, ob 1 [.ref lm, .ref lb, .ref lr, .int lo, .int nw])], wr]) := by
  refine Mx.of (by decide) (Nat.le_of_ble_eq_true rfl) (fun X hX hR hT => ?_)
  refine g_lv1 (lv1 := [(0, .ref o), (1, .int i)]) rfl ?_
  refine g_iload_n hX (pc := 0) dX1_requestAt_0 1 rfl ?_
  refine g_aload_n hX (pc := 1) dX1_requestAt_1 0 rfl ?_
  refine g_get hX (pc := 2) fcX1 0 rfl 0 (by decide) q176 rfl (v := .ref n) rfl dX1_requestAt_2 ?_
  refine g_getN hX (pc := 5) fcX2 1 rfl 2 (by decide) q160 rfl (v := .ref lr) rfl dX1_requestAt_5 ?_
  obtain ⟨fs1, hm2⟩ := AL.head hAr
  refine g_callF hX (pc := 8) kfJ2_size (mt_AL_size E l lr ras wr hAr) q738 fcJ2 (sp_in 2 rfl hm2) [2] rfl rfl rfl (Nat.le_of_ble_eq_true rfl) (Nat.le_of_ble_eq_true rfl) (Nat.le_of_ble_eq_true rfl) (Nat.le_of_ble_eq_true rfl) (Nat.le_of_ble_eq_true rfl) dX1_requestAt_8 (fun v w1 hp => ?_)
  obtain ⟨rfl, rfl⟩ := hp
  refine g_nrm (cs1 := [wr, [(o, ob 0 [.ref n])], [(n, ob 1 [.ref lm, .ref lb, .ref lr, .int lo, .int nw])]]) (st1 := [.int (nI (List.length ras)), .int i]) rfl rfl ?_
  refine gx_callS hX (pc := 13) kX1_checkPlace (mx_checkPlace E l hl0 i (nI (List.length ras)) (hb)) q1364 [] rfl rfl rfl (Nat.le_of_ble_eq_true rfl) (Nat.le_of_ble_eq_true rfl) (Nat.le_of_ble_eq_true rfl) (Nat.le_of_ble_eq_true rfl) (Nat.le_of_ble_eq_true rfl) dX1_requestAt_13 (fun C q w1 hp => ?_) (fun v w1 hp => hp.elim)
  obtain ⟨rfl, rfl⟩ := hp
  refine gx_pk [1, 1, 0] rfl ?_
  exact gx_out hX hR hT (Nat.le_of_ble_eq_true rfl) (Nat.le_of_ble_eq_true rfl) ⟨rfl, rfl⟩

set_option maxHeartbeats 4000000 in
theorem mt_Q_messageAt (E : EE) (l : Launch) (o : Nat) (n : Nat) (lm : Nat) (lb : Nat) (lr : Nat) (lo : Int32) (nw : Int32) (bas : List Nat) (wb : va_W) (fz : va_W) (i : Nat) (a : Nat) (g : PMg) (hAb : AL E lb bas wb) (hi : (bas[i]? = some a)) (hl : (bas.length ≤ 30)) (hg : MsgIn E fz a g) : Mt E l yX1_messageAt cX1_messageAt 2 (some (.object "Quorumspire$Message")) 4 0 0 65 [.ref o, .int (nI i)] [[(o, ob 0 [.ref n])], [(n, ob 1 [.ref lm, .ref lb, .ref lr, .int lo, .int nw])], wb, fz] (fun (v_ : Option Value) (cs_ : List va_W) => v_ = some (.ref a) ∧ cs_ = [[(o, ob 0 [.ref n])], [(n, ob 1 [.ref lm, .ref lb, .ref lr, .int lo, .int nw])], wb, fz]) := by
  have hil : i < bas.length := (List.getElem?_eq_some_iff.mp hi).1
  refine Mt.of (by decide) (Nat.le_of_ble_eq_true rfl) (fun X hX hR hin => ?_)
  refine g_lv1 (lv1 := [(0, .ref o), (1, .int (nI i))]) rfl ?_
  obtain ⟨ra, sp, ges, f, hg1, -⟩ := MsgIn.out hg
  refine g_iload_n hX (pc := 0) dX1_messageAt_0 1 rfl ?_
  refine g_aload_n hX (pc := 1) dX1_messageAt_1 0 rfl ?_
  refine g_get hX (pc := 2) fcX1 0 rfl 0 (by decide) q176 rfl (v := .ref n) rfl dX1_messageAt_2 ?_
  refine g_getN hX (pc := 5) fcX2 1 rfl 1 (by decide) q158 rfl (v := .ref lb) rfl dX1_messageAt_5 ?_
  obtain ⟨fs1, hm2⟩ := AL.head hAb
  refine g_callF hX (pc := 8) kfJ2_size (mt_AL_size E l lb bas wb hAb) q738 fcJ2 (sp_in 2 rfl hm2) [2] rfl rfl rfl (Nat.le_of_ble_eq_true rfl) (Nat.le_of_ble_eq_true rfl) (Nat.le_of_ble_eq_true rfl) (Nat.le_of_ble_eq_true rfl) (Nat.le_of_ble_eq_true rfl) dX1_messageAt_8 (fun v w1 hp => ?_)
  obtain ⟨rfl, rfl⟩ := hp
  refine g_nrm (cs1 := [wb, [(o, ob 0 [.ref n])], [(n, ob 1 [.ref lm, .ref lb, .ref lr, .int lo, .int nw])], fz]) (st1 := [.int (nI (List.length bas)), .int (nI i)]) rfl rfl ?_
  refine g_callS hX (pc := 13) kX1_checkPlace (mt_checkPlace E l (nI i) (nI (List.length bas)) (nI_pos (by omega)) (nI_lt hil (by omega))) q1364 [] rfl rfl rfl (Nat.le_of_ble_eq_true rfl) (Nat.le_of_ble_eq_true rfl) (Nat.le_of_ble_eq_true rfl) (Nat.le_of_ble_eq_true rfl) (Nat.le_of_ble_eq_true rfl) dX1_messageAt_13 (fun v w1 hp => ?_)
  obtain ⟨rfl, rfl⟩ := hp
  refine g_nrm (cs1 := [wb, [(o, ob 0 [.ref n])], [(n, ob 1 [.ref lm, .ref lb, .ref lr, .int lo, .int nw])], fz]) (st1 := []) rfl rfl ?_
  refine g_aload_n hX (pc := 16) dX1_messageAt_16 0 rfl ?_
  refine g_get hX (pc := 17) fcX1 1 rfl 0 (by decide) q176 rfl (v := .ref n) rfl dX1_messageAt_17 ?_
  refine g_getN hX (pc := 20) fcX2 2 rfl 1 (by decide) q158 rfl (v := .ref lb) rfl dX1_messageAt_20 ?_
  refine g_iload_n hX (pc := 23) dX1_messageAt_23 1 rfl ?_
  refine g_callF hX (pc := 24) kfJ2_get (mt_AL_get E l lb bas wb i a hAb (hi)) q740 fcJ2 (sp_in 0 rfl hm2) [0] rfl rfl rfl (Nat.le_of_ble_eq_true rfl) (Nat.le_of_ble_eq_true rfl) (Nat.le_of_ble_eq_true rfl) (Nat.le_of_ble_eq_true rfl) (Nat.le_of_ble_eq_true rfl) dX1_messageAt_24 (fun v w1 hp => ?_)
  obtain ⟨rfl, rfl⟩ := hp
  refine g_nrm (cs1 := [wb, [(o, ob 0 [.ref n])], [(n, ob 1 [.ref lm, .ref lb, .ref lr, .int lo, .int nw])], fz]) (st1 := [.ref a]) rfl rfl ?_
  refine g_cast hX (pc := 29) fcX13 (sp_in 3 rfl hg1) q794 dX1_messageAt_29 ?_
  refine g_pk [1, 1, 0, 0] rfl ?_
  refine g_cs (cs1 := [[(o, ob 0 [.ref n])], [(n, ob 1 [.ref lm, .ref lb, .ref lr, .int lo, .int nw])], wb, fz]) rfl ?_
  refine g_aret hX (pc := 32) hR (by first | exact Or.inl ⟨_, rfl⟩ | exact Or.inr ⟨_, rfl⟩) ?_ (Nat.le_of_ble_eq_true rfl) (Nat.le_of_ble_eq_true rfl) dX1_messageAt_32
  exact ⟨rfl, rfl⟩

set_option maxHeartbeats 4000000 in
theorem mx_Q_messageAt (E : EE) (l : Launch) (hl0 : l.stackTraces = false) (o : Nat) (n : Nat) (lm : Nat) (lb : Nat) (lr : Nat) (lo : Int32) (nw : Int32) (bas : List Nat) (wb : va_W) (i : Int32) (hAb : AL E lb bas wb) (hb : (i < 0 ∨ ¬ i < nI (List.length bas))) : Mx E l yX1_messageAt cX1_messageAt 2 (some (.object "Quorumspire$Message")) 7 1 6 102 [.ref o, .int i] [[(o, ob 0 [.ref n])], [(n, ob 1 [.ref lm, .ref lb, .ref lr, .int lo, .int nw])], wb] (fun (_ : Option Value) (_ : List va_W) => False) (fun (C_ : String) (cs_ : List va_W) => C_ = "java/lang/IndexOutOfBoundsException" ∧ cs_ = [[(o, ob 0 [.ref n])], [(n, ob 1 [.ref lm, .ref lb, .ref lr, .int lo, .int nw])], wb]) := by
  refine Mx.of (by decide) (Nat.le_of_ble_eq_true rfl) (fun X hX hR hT => ?_)
  refine g_lv1 (lv1 := [(0, .ref o), (1, .int i)]) rfl ?_
  refine g_iload_n hX (pc := 0) dX1_messageAt_0 1 rfl ?_
  refine g_aload_n hX (pc := 1) dX1_messageAt_1 0 rfl ?_
  refine g_get hX (pc := 2) fcX1 0 rfl 0 (by decide) q176 rfl (v := .ref n) rfl dX1_messageAt_2 ?_
  refine g_getN hX (pc := 5) fcX2 1 rfl 1 (by decide) q158 rfl (v := .ref lb) rfl dX1_messageAt_5 ?_
  obtain ⟨fs1, hm2⟩ := AL.head hAb
  refine g_callF hX (pc := 8) kfJ2_size (mt_AL_size E l lb bas wb hAb) q738 fcJ2 (sp_in 2 rfl hm2) [2] rfl rfl rfl (Nat.le_of_ble_eq_true rfl) (Nat.le_of_ble_eq_true rfl) (Nat.le_of_ble_eq_true rfl) (Nat.le_of_ble_eq_true rfl) (Nat.le_of_ble_eq_true rfl) dX1_messageAt_8 (fun v w1 hp => ?_)
  obtain ⟨rfl, rfl⟩ := hp
  refine g_nrm (cs1 := [wb, [(o, ob 0 [.ref n])], [(n, ob 1 [.ref lm, .ref lb, .ref lr, .int lo, .int nw])]]) (st1 := [.int (nI (List.length bas)), .int i]) rfl rfl ?_
  refine gx_callS hX (pc := 13) kX1_checkPlace (mx_checkPlace E l hl0 i (nI (List.length bas)) (hb)) q1364 [] rfl rfl rfl (Nat.le_of_ble_eq_true rfl) (Nat.le_of_ble_eq_true rfl) (Nat.le_of_ble_eq_true rfl) (Nat.le_of_ble_eq_true rfl) (Nat.le_of_ble_eq_true rfl) dX1_messageAt_13 (fun C q w1 hp => ?_) (fun v w1 hp => hp.elim)
  obtain ⟨rfl, rfl⟩ := hp
  refine gx_pk [1, 1, 0] rfl ?_
  exact gx_out hX hR hT (Nat.le_of_ble_eq_true rfl) (Nat.le_of_ble_eq_true rfl) ⟨rfl, rfl⟩
