set_option maxHeartbeats 4000000 in
theorem mt_Machine_isUp (E : EE) (l : Launch) (m : Nat) (num : Int32) (rn : Nat) (rk : Nat) (rl : Nat) (rs : Nat) (rst : Nat) (role : Int32) (vt : Int32) (su : Int32) (dn : Int32) (lz : Int32) : Mt E l yX9_isUp cX9_isUp 1 (some .boolean) 1 0 0 1 [.ref m] [[(m, ob 8 [.int num, .ref rn, .ref rk, .ref rl, .ref rs, .ref rst, .int role, .int vt, .int su, .int dn, .int lz])]] (fun (v_ : Option Value) (cs_ : List va_W) => v_ = some (.int (if role = 0 then 0 else 1)) ∧ cs_ = [[(m, ob 8 [.int num, .ref rn, .ref rk, .ref rl, .ref rs, .ref rst, .int role, .int vt, .int su, .int dn, .int lz])]]) := by
  refine Mt.of (by decide) (Nat.le_of_ble_eq_true rfl) (fun X hX hR hin => ?_)
  refine g_lv1 (lv1 := [(0, .ref m)]) rfl ?_
  refine g_aload_n hX (pc := 0) dX9_isUp_0 0 rfl ?_
  refine g_get hX (pc := 1) fcX9 0 rfl 6 (by decide) q940 rfl (v := .int role) rfl dX9_isUp_1 ?_
  refine g_val (v := if role = 0 then 0 else 1) (pcJ := 12) (st1 := []) (fun hj1 => ?_) ?_
  · refine g_if_eq hX (pc := 4) (tgt := 11) dX9_isUp_4 rfl (fun c2 => ?_) (fun c2 => ?_)
    · refine g_iconst hX (pc := 11) (v := 0) dX9_isUp_11 (by decide) ?_
      exact hj1 _ (by rw [if_pos c2])
    · refine g_iconst hX (pc := 7) (v := 1) dX9_isUp_7 (by decide) ?_
      refine g_goto hX (pc := 8) (tgt := 12) dX9_isUp_8 rfl ?_
      exact hj1 _ (by rw [if_neg c2])
  refine g_zret hX (pc := 12) hR (nz01 _) ?_ (Nat.le_of_ble_eq_true rfl) (Nat.le_of_ble_eq_true rfl) dX9_isUp_12
  exact ⟨rfl, rfl⟩

set_option maxHeartbeats 4000000 in
theorem mt_Machine_isLeader (E : EE) (l : Launch) (m : Nat) (num : Int32) (rn : Nat) (rk : Nat) (rl : Nat) (rs : Nat) (rst : Nat) (role : Int32) (vt : Int32) (su : Int32) (dn : Int32) (lz : Int32) : Mt E l yX9_isLeader cX9_isLeader 1 (some .boolean) 1 0 0 1 [.ref m] [[(m, ob 8 [.int num, .ref rn, .ref rk, .ref rl, .ref rs, .ref rst, .int role, .int vt, .int su, .int dn, .int lz])]] (fun (v_ : Option Value) (cs_ : List va_W) => v_ = some (.int (if role = 3 then 1 else 0)) ∧ cs_ = [[(m, ob 8 [.int num, .ref rn, .ref rk, .ref rl, .ref rs, .ref rst, .int role, .int vt, .int su, .int dn, .int lz])]]) := by
  refine Mt.of (by decide) (Nat.le_of_ble_eq_true rfl) (fun X hX hR hin => ?_)
  refine g_lv1 (lv1 := [(0, .ref m)]) rfl ?_
  refine g_aload_n hX (pc := 0) dX9_isLeader_0 0 rfl ?_
  refine g_get hX (pc := 1) fcX9 0 rfl 6 (by decide) q940 rfl (v := .int role) rfl dX9_isLeader_1 ?_
  refine g_iconst hX (pc := 4) (v := 3) dX9_isLeader_4 (by decide) ?_
  refine g_val (v := if role = 3 then 1 else 0) (pcJ := 13) (st1 := []) (fun hj1 => ?_) ?_
  · refine g_icmp_ne hX (pc := 5) (tgt := 12) dX9_isLeader_5 rfl (fun c2 => ?_) (fun c2 => ?_)
    · refine g_iconst hX (pc := 12) (v := 0) dX9_isLeader_12 (by decide) ?_
      exact hj1 _ (by rw [if_neg c2])
    · refine g_iconst hX (pc := 8) (v := 1) dX9_isLeader_8 (by decide) ?_
      refine g_goto hX (pc := 9) (tgt := 13) dX9_isLeader_9 rfl ?_
      exact hj1 _ (by rw [if_pos c2])
  refine g_zret hX (pc := 13) hR (nz10 _) ?_ (Nat.le_of_ble_eq_true rfl) (Nat.le_of_ble_eq_true rfl) dX9_isLeader_13
  exact ⟨rfl, rfl⟩

set_option maxHeartbeats 4000000 in
theorem mt_Machine_follow (E : EE) (l : Launch) (m : Nat) (num : Int32) (rn : Nat) (rk : Nat) (rl : Nat) (rs : Nat) (rst : Nat) (role : Int32) (vt : Int32) (su : Int32) (dn : Int32) (lz : Int32) : Mt E l yX9_follow cX9_follow 1 none 1 0 0 1 [.ref m] [[(m, ob 8 [.int num, .ref rn, .ref rk, .ref rl, .ref rs, .ref rst, .int role, .int vt, .int su, .int dn, .int lz])]] (fun (v_ : Option Value) (cs_ : List va_W) => v_ = none ∧ cs_ = [[(m, ob 8 [.int num, .ref rn, .ref rk, .ref rl, .ref rs, .ref rst, .int 1, .int 0, .int su, .int dn, .int lz])]]) := by
  refine Mt.of (by decide) (Nat.le_of_ble_eq_true rfl) (fun X hX hR hin => ?_)
  refine g_lv1 (lv1 := [(0, .ref m)]) rfl ?_
  refine g_aload_n hX (pc := 0) dX9_follow_0 0 rfl ?_
  refine g_iconst hX (pc := 1) (v := 1) dX9_follow_1 (by decide) ?_
  refine g_put hX (pc := 2) fcX9 0 (fs1 := [.int num, .ref rn, .ref rk, .ref rl, .ref rs, .ref rst, .int 1, .int vt, .int su, .int dn, .int lz]) (cs1 := [[(m, ob 8 [.int num, .ref rn, .ref rk, .ref rl, .ref rs, .ref rst, .int 1, .int vt, .int su, .int dn, .int lz])]]) rfl 6 (by decide) q940 rfl rfl rfl rfl (Nat.le_of_ble_eq_true rfl) rfl rfl dX9_follow_2 ?_
  refine g_aload_n hX (pc := 5) dX9_follow_5 0 rfl ?_
  refine g_iconst hX (pc := 6) (v := 0) dX9_follow_6 (by decide) ?_
  refine g_put hX (pc := 7) fcX9 0 (fs1 := [.int num, .ref rn, .ref rk, .ref rl, .ref rs, .ref rst, .int 1, .int 0, .int su, .int dn, .int lz]) (cs1 := [[(m, ob 8 [.int num, .ref rn, .ref rk, .ref rl, .ref rs, .ref rst, .int 1, .int 0, .int su, .int dn, .int lz])]]) rfl 7 (by decide) q942 rfl rfl rfl rfl (Nat.le_of_ble_eq_true rfl) rfl rfl dX9_follow_7 ?_
  refine g_vret hX (pc := 10) hR ?_ (Nat.le_of_ble_eq_true rfl) (Nat.le_of_ble_eq_true rfl) dX9_follow_10
  exact ⟨rfl, rfl⟩

set_option maxHeartbeats 4000000 in
theorem mt_Machine_init (E : EE) (l : Launch) (m : Nat) (num : Int32) (rl : Nat) (rs : Nat) (rst : Nat) : Mt E l yX9_init cX9_init 5 none 1 2 10 12 [.ref m, .int num, .ref rl, .ref rs, .ref rst] [[(m, ob 8 [.int 0, .null, .null, .null, .null, .null, .int 0, .int 0, .int 0, .int 0, .int 0])]] (fun (v_ : Option Value) (cs_ : List va_W) => ∃ (rn : Nat) (rk : Nat), v_ = none ∧ cs_ = [[(m, ob 8 [.int num, .ref rn, .ref rk, .ref rl, .ref rs, .ref rst, .int 1, .int 0, .int 0, .int 0, .int 0])], [(rn, iA (aC E 0) 5 (fun _ => 0))], [(rk, iA (aC E 0) 5 (fun _ => 0))]]) := by
  refine Mt.of (by decide) (Nat.le_of_ble_eq_true rfl) (fun X hX hR hin => ?_)
  refine g_lv1 (lv1 := [(0, .ref m), (1, .int num), (2, .ref rl), (3, .ref rs), (4, .ref rst)]) rfl ?_
  refine g_aload_n hX (pc := 0) dX9_init_0 0 rfl ?_
  refine g_objInit hX (pc := 1) q923 q_oi1 q_oi2 (Nat.le_of_ble_eq_true rfl) (Nat.le_of_ble_eq_true rfl) dX9_init_1 ?_
  refine g_aload_n hX (pc := 4) dX9_init_4 0 rfl ?_
  refine g_iconst hX (pc := 5) (v := 5) dX9_init_5 (by decide) ?_
  refine g_newi hX (pc := 6) q918 5 (by decide) (by decide) (Nat.le_of_ble_eq_true rfl) (Nat.le_of_ble_eq_true rfl) (Nat.le_of_ble_eq_true rfl) dX9_init_6 (fun q1 => ?_)
  refine g_putF hX (pc := 8) fcX9 1 (fs1 := [.int 0, .ref q1, .null, .null, .null, .null, .int 0, .int 0, .int 0, .int 0, .int 0]) (cs1 := [[(q1, iA (aC E 0) 5 (fun _ => 0))], [(m, ob 8 [.int 0, .ref q1, .null, .null, .null, .null, .int 0, .int 0, .int 0, .int 0, .int 0])]]) rfl 1 (by decide) q927 rfl rfl hin rfl rfl rfl (Nat.le_of_ble_eq_true rfl) rfl rfl dX9_init_8 ?_
  refine g_aload_n hX (pc := 11) dX9_init_11 0 rfl ?_
  refine g_iconst hX (pc := 12) (v := 5) dX9_init_12 (by decide) ?_
  refine g_newi hX (pc := 13) q918 5 (by decide) (by decide) (Nat.le_of_ble_eq_true rfl) (Nat.le_of_ble_eq_true rfl) (Nat.le_of_ble_eq_true rfl) dX9_init_13 (fun q2 => ?_)
  refine g_putF hX (pc := 15) fcX9 2 (fs1 := [.int 0, .ref q1, .ref q2, .null, .null, .null, .int 0, .int 0, .int 0, .int 0, .int 0]) (cs1 := [[(q2, iA (aC E 0) 5 (fun _ => 0))], [(q1, iA (aC E 0) 5 (fun _ => 0))], [(m, ob 8 [.int 0, .ref q1, .ref q2, .null, .null, .null, .int 0, .int 0, .int 0, .int 0, .int 0])]]) rfl 2 (by decide) q929 rfl rfl hin rfl rfl rfl (Nat.le_of_ble_eq_true rfl) rfl rfl dX9_init_15 ?_
  refine g_aload_n hX (pc := 18) dX9_init_18 0 rfl ?_
  refine g_iconst hX (pc := 19) (v := 1) dX9_init_19 (by decide) ?_
  refine g_put hX (pc := 20) fcX9 2 (fs1 := [.int 0, .ref q1, .ref q2, .null, .null, .null, .int 1, .int 0, .int 0, .int 0, .int 0]) (cs1 := [[(q2, iA (aC E 0) 5 (fun _ => 0))], [(q1, iA (aC E 0) 5 (fun _ => 0))], [(m, ob 8 [.int 0, .ref q1, .ref q2, .null, .null, .null, .int 1, .int 0, .int 0, .int 0, .int 0])]]) rfl 6 (by decide) q940 rfl rfl rfl rfl (Nat.le_of_ble_eq_true rfl) rfl rfl dX9_init_20 ?_
  refine g_aload_n hX (pc := 23) dX9_init_23 0 rfl ?_
  refine g_iload_n hX (pc := 24) dX9_init_24 1 rfl ?_
  refine g_putF hX (pc := 25) fcX9 2 (fs1 := [.int num, .ref q1, .ref q2, .null, .null, .null, .int 1, .int 0, .int 0, .int 0, .int 0]) (cs1 := [[(q2, iA (aC E 0) 5 (fun _ => 0))], [(q1, iA (aC E 0) 5 (fun _ => 0))], [(m, ob 8 [.int num, .ref q1, .ref q2, .null, .null, .null, .int 1, .int 0, .int 0, .int 0, .int 0])]]) rfl 0 (by decide) q925 rfl rfl hin rfl rfl rfl (Nat.le_of_ble_eq_true rfl) rfl rfl dX9_init_25 ?_
  refine g_aload_n hX (pc := 28) dX9_init_28 0 rfl ?_
  refine g_aload_n hX (pc := 29) dX9_init_29 2 rfl ?_
  refine g_put hX (pc := 30) fcX9 2 (fs1 := [.int num, .ref q1, .ref q2, .ref rl, .null, .null, .int 1, .int 0, .int 0, .int 0, .int 0]) (cs1 := [[(q2, iA (aC E 0) 5 (fun _ => 0))], [(q1, iA (aC E 0) 5 (fun _ => 0))], [(m, ob 8 [.int num, .ref q1, .ref q2, .ref rl, .null, .null, .int 1, .int 0, .int 0, .int 0, .int 0])]]) rfl 3 (by decide) q931 rfl rfl rfl rfl (Nat.le_of_ble_eq_true rfl) rfl rfl dX9_init_30 ?_
  refine g_aload_n hX (pc := 33) dX9_init_33 0 rfl ?_
  refine g_aload_n hX (pc := 34) dX9_init_34 3 rfl ?_
  refine g_put hX (pc := 35) fcX9 2 (fs1 := [.int num, .ref q1, .ref q2, .ref rl, .ref rs, .null, .int 1, .int 0, .int 0, .int 0, .int 0]) (cs1 := [[(q2, iA (aC E 0) 5 (fun _ => 0))], [(q1, iA (aC E 0) 5 (fun _ => 0))], [(m, ob 8 [.int num, .ref q1, .ref q2, .ref rl, .ref rs, .null, .int 1, .int 0, .int 0, .int 0, .int 0])]]) rfl 4 (by decide) q935 rfl rfl rfl rfl (Nat.le_of_ble_eq_true rfl) rfl rfl dX9_init_35 ?_
  refine g_aload_n hX (pc := 38) dX9_init_38 0 rfl ?_
  refine g_aload hX (pc := 39) dX9_init_39 4 rfl ?_
  refine g_put hX (pc := 41) fcX9 2 (fs1 := [.int num, .ref q1, .ref q2, .ref rl, .ref rs, .ref rst, .int 1, .int 0, .int 0, .int 0, .int 0]) (cs1 := [[(q2, iA (aC E 0) 5 (fun _ => 0))], [(q1, iA (aC E 0) 5 (fun _ => 0))], [(m, ob 8 [.int num, .ref q1, .ref q2, .ref rl, .ref rs, .ref rst, .int 1, .int 0, .int 0, .int 0, .int 0])]]) rfl 5 (by decide) q937 rfl rfl rfl rfl (Nat.le_of_ble_eq_true rfl) rfl rfl dX9_init_41 ?_
  refine g_pk [2, 1, 0] rfl ?_
  refine g_cs (cs1 := [[(m, ob 8 [.int num, .ref q1, .ref q2, .ref rl, .ref rs, .ref rst, .int 1, .int 0, .int 0, .int 0, .int 0])], [(q1, iA (aC E 0) 5 (fun _ => 0))], [(q2, iA (aC E 0) 5 (fun _ => 0))]]) rfl ?_
  refine g_vret hX (pc := 44) hR ?_ (Nat.le_of_ble_eq_true rfl) (Nat.le_of_ble_eq_true rfl) dX9_init_44
  exact ⟨_, _, rfl, rfl⟩

set_option maxHeartbeats 4000000 in
theorem mt_Machine_meet (E : EE) (l : Launch) (m : Nat) (num : Int32) (rn : Nat) (rk : Nat) (rl : Nat) (rs : Nat) (rst : Nat) (role : Int32) (vt : Int32) (su : Int32) (dn : Int32) (lz : Int32) (la : Nat) (t : Int32) (v : Int32) (b : Nat) (bt : Int32) (sp : Nat) (tm : Int32) : Mt E l yX9_meet cX9_meet 2 none 2 0 0 21 [.ref m, .int tm] [[(m, ob 8 [.int num, .ref rn, .ref rk, .ref rl, .ref rs, .ref rst, .int role, .int vt, .int su, .int dn, .int lz])], [(rl, ob 9 [.ref la, .int t, .int v, .int (nI b), .int bt, .ref sp])]] (fun (v_ : Option Value) (cs_ : List va_W) => v_ = none ∧ cs_ = [[(m, ob 8 [.int num, .ref rn, .ref rk, .ref rl, .ref rs, .ref rst, .int (if t < tm then 1 else role), .int (if t < tm then 0 else vt), .int su, .int dn, .int lz])], [(rl, ob 9 [.ref la, .int (if t < tm then tm else t), .int (if t < tm then (-1) else v), .int (nI b), .int bt, .ref sp])]]) := by
  refine Mt.of (by decide) (Nat.le_of_ble_eq_true rfl) (fun X hX hR hin => ?_)
  refine g_lv1 (lv1 := [(0, .ref m), (1, .int tm)]) rfl ?_
  refine g_iload_n hX (pc := 0) dX9_meet_0 1 rfl ?_
  refine g_aload_n hX (pc := 1) dX9_meet_1 0 rfl ?_
  refine g_get hX (pc := 2) fcX9 0 rfl 3 (by decide) q931 rfl (v := .ref rl) rfl dX9_meet_2 ?_
  refine g_getN hX (pc := 5) fcX10 1 rfl 1 (by decide) q845 rfl (v := .int t) rfl dX9_meet_5 ?_
  refine g_icmp_le hX (pc := 8) (tgt := 31) dX9_meet_8 rfl (fun c1 => ?_) (fun c1 => ?_)
  · refine g_vret hX (pc := 31) hR ?_ (Nat.le_of_ble_eq_true rfl) (Nat.le_of_ble_eq_true rfl) dX9_meet_31
    have d := Int32.not_lt.mpr c1
    simp only [if_neg d, and_self]
  · refine g_aload_n hX (pc := 11) dX9_meet_11 0 rfl ?_
    refine g_get hX (pc := 12) fcX9 0 rfl 3 (by decide) q931 rfl (v := .ref rl) rfl dX9_meet_12 ?_
    refine g_iload_n hX (pc := 15) dX9_meet_15 1 rfl ?_
    refine g_putN hX (pc := 16) fcX10 1 (fs1 := [.ref la, .int tm, .int v, .int (nI b), .int bt, .ref sp]) (cs1 := [[(m, ob 8 [.int num, .ref rn, .ref rk, .ref rl, .ref rs, .ref rst, .int role, .int vt, .int su, .int dn, .int lz])], [(rl, ob 9 [.ref la, .int tm, .int v, .int (nI b), .int bt, .ref sp])]]) rfl 1 (by decide) q845 rfl rfl rfl rfl (Nat.le_of_ble_eq_true rfl) rfl rfl dX9_meet_16 ?_
    refine g_aload_n hX (pc := 19) dX9_meet_19 0 rfl ?_
    refine g_get hX (pc := 20) fcX9 0 rfl 3 (by decide) q931 rfl (v := .ref rl) rfl dX9_meet_20 ?_
    refine g_iconst hX (pc := 23) (v := (-1)) dX9_meet_23 (by decide) ?_
    refine g_putN hX (pc := 24) fcX10 1 (fs1 := [.ref la, .int tm, .int (-1), .int (nI b), .int bt, .ref sp]) (cs1 := [[(m, ob 8 [.int num, .ref rn, .ref rk, .ref rl, .ref rs, .ref rst, .int role, .int vt, .int su, .int dn, .int lz])], [(rl, ob 9 [.ref la, .int tm, .int (-1), .int (nI b), .int bt, .ref sp])]]) rfl 2 (by decide) q849 rfl rfl rfl rfl (Nat.le_of_ble_eq_true rfl) rfl rfl dX9_meet_24 ?_
    refine g_aload_n hX (pc := 27) dX9_meet_27 0 rfl ?_
    refine g_callV hX (pc := 28) kX9_follow (mt_Machine_follow E l m num rn rk rl rs rst role vt su dn lz) q1200 fcX9 (sp_mem (i := 0) rfl) [0] rfl rfl rfl (Nat.le_of_ble_eq_true rfl) (Nat.le_of_ble_eq_true rfl) (Nat.le_of_ble_eq_true rfl) (Nat.le_of_ble_eq_true rfl) (Nat.le_of_ble_eq_true rfl) dX9_meet_28 (fun v w1 hp => ?_)
    obtain ⟨rfl, rfl⟩ := hp
    refine g_nrm (cs1 := [[(m, ob 8 [.int num, .ref rn, .ref rk, .ref rl, .ref rs, .ref rst, .int 1, .int 0, .int su, .int dn, .int lz])], [(rl, ob 9 [.ref la, .int tm, .int (-1), .int (nI b), .int bt, .ref sp])]]) (st1 := []) rfl rfl ?_
    refine g_vret hX (pc := 31) hR ?_ (Nat.le_of_ble_eq_true rfl) (Nat.le_of_ble_eq_true rfl) dX9_meet_31
    have d := Int32.not_le.mp c1
    simp only [if_pos d, and_self]

set_option maxHeartbeats 4000000 in
theorem mt_Machine_save (E : EE) (l : Launch) (m : Nat) (num : Int32) (rn : Nat) (rk : Nat) (rl : Nat) (rs : Nat) (rst : Nat) (role : Int32) (vt : Int32) (su : Int32) (dn : Int32) (lz : Int32) (la : Nat) (t : Int32) (v : Int32) (b : Nat) (bt : Int32) (sp : Nat) (fz : va_W) (ges : List (Nat × PEn)) (wl : va_W) (hE : EL E fz la ges wl) (hn : (List.length ges ≤ 48)) : Mt E l yX9_save cX9_save 1 none 8 (2 + fl_mc (List.length ges)) (9 + fl_ms (List.length ges)) 193 [.ref m] [[(m, ob 8 [.int num, .ref rn, .ref rk, .ref rl, .ref rs, .ref rst, .int role, .int vt, .int su, .int dn, .int lz])], [(rl, ob 9 [.ref la, .int t, .int v, .int (nI b), .int bt, .ref sp])], wl, fz] (fun (v_ : Option Value) (cs_ : List va_W) => ∃ (q : Nat) (lb : Nat) (w1 : va_W), EL E fz lb ges w1 ∧ v_ = none ∧ cs_ = [[(m, ob 8 [.int num, .ref rn, .ref rk, .ref rl, .ref q, .ref rst, .int role, .int vt, .int su, .int dn, .int lz])], [(q, ob 9 [.ref lb, .int t, .int v, .int (nI b), .int bt, .ref sp])], w1, [(rl, ob 9 [.ref la, .int t, .int v, .int (nI b), .int bt, .ref sp])], wl, fz]) := by
  refine Mt.of (by decide) (Nat.le_of_ble_eq_true rfl) (fun X hX hR hin => ?_)
  refine g_lv1 (lv1 := [(0, .ref m)]) rfl ?_
  refine g_aload_n hX (pc := 0) dX9_save_0 0 rfl ?_
  refine g_aload_n hX (pc := 1) dX9_save_1 0 rfl ?_
  refine g_get hX (pc := 2) fcX9 0 rfl 3 (by decide) q931 rfl (v := .ref rl) rfl dX9_save_2 ?_
  refine g_callV hX (pc := 5) kX10_copy (mt_Log_copy E l rl la t v b bt sp fz ges wl hE (hn)) q827 fcX10 (sp_mem (i := 1) rfl) [1, 1, 1] rfl rfl rfl (Nat.le_of_ble_eq_true rfl) (Nat.le_of_ble_eq_true rfl) (Nat.le_of_ble_eq_true rfl) (by omega) (by omega) dX9_save_5 (fun v w1 hp => ?_)
  obtain ⟨q1, lb2, w13, h4, rfl, rfl⟩ := hp
  refine g_nrm (cs1 := [[(q1, ob 9 [.ref lb2, .int t, .int v, .int (nI b), .int bt, .ref sp])], w13, [(rl, ob 9 [.ref la, .int t, .int v, .int (nI b), .int bt, .ref sp])], wl, fz, [(m, ob 8 [.int num, .ref rn, .ref rk, .ref rl, .ref rs, .ref rst, .int role, .int vt, .int su, .int dn, .int lz])]]) (st1 := [.ref q1, .ref m]) rfl rfl ?_
  refine g_put hX (pc := 8) fcX9 5 (fs1 := [.int num, .ref rn, .ref rk, .ref rl, .ref q1, .ref rst, .int role, .int vt, .int su, .int dn, .int lz]) (cs1 := [[(q1, ob 9 [.ref lb2, .int t, .int v, .int (nI b), .int bt, .ref sp])], w13, [(rl, ob 9 [.ref la, .int t, .int v, .int (nI b), .int bt, .ref sp])], wl, fz, [(m, ob 8 [.int num, .ref rn, .ref rk, .ref rl, .ref q1, .ref rst, .int role, .int vt, .int su, .int dn, .int lz])]]) rfl 4 (by decide) q935 rfl rfl rfl rfl (Nat.le_of_ble_eq_true rfl) rfl rfl dX9_save_8 ?_
  refine g_pk [5, 0, 0, 0, 0, 0] rfl ?_
  refine g_cs (cs1 := [[(m, ob 8 [.int num, .ref rn, .ref rk, .ref rl, .ref q1, .ref rst, .int role, .int vt, .int su, .int dn, .int lz])], [(q1, ob 9 [.ref lb2, .int t, .int v, .int (nI b), .int bt, .ref sp])], w13, [(rl, ob 9 [.ref la, .int t, .int v, .int (nI b), .int bt, .ref sp])], wl, fz]) rfl ?_
  refine g_vret hX (pc := 11) hR ?_ (by omega) (by omega) dX9_save_11
  exact ⟨_, _, _, h4, rfl, rfl⟩

set_option maxHeartbeats 4000000 in
theorem mt_Store_copyF (E : EE) (l : Launch) (a : Nat) (S : PS) (fz : va_W) (hF : (StIn E fz a S)) : Mt E l yX8_copy cX8_copy 2 (some (.object "Quorumspire$Store")) 2 7 31 40 [.ref a] [fz] (fun (v_ : Option Value) (cs_ : List va_W) => ∃ (q : Nat) (w1 : va_W), IsSt E q S w1 ∧ v_ = some (.ref q) ∧ cs_ = [w1, fz]) := by
  obtain ⟨w, ⟨sr, f0, f1, f2, f3, f4, f5, hS, rfl⟩, hm⟩ := hF
  have k0 := hm _ (List.Mem.head _)
  have k1 := hm _ (List.Mem.tail _ (List.Mem.head _))
  have k2 := hm _ (List.Mem.tail _ (List.Mem.tail _ (List.Mem.head _)))
  have k3 := hm _ (List.Mem.tail _ (List.Mem.tail _ (List.Mem.tail _ (List.Mem.head _))))
  have k4 := hm _ (List.Mem.tail _ (List.Mem.tail _ (List.Mem.tail _ (List.Mem.tail _ (List.Mem.head _)))))
  have k5 := hm _ (List.Mem.tail _ (List.Mem.tail _ (List.Mem.tail _ (List.Mem.tail _ (List.Mem.tail _ (List.Mem.head _))))))
  have k6 := hm _ (List.Mem.tail _ (List.Mem.tail _ (List.Mem.tail _ (List.Mem.tail _ (List.Mem.tail _ (List.Mem.tail _ (List.Mem.head _)))))))
  refine Mt.of (by decide) (Nat.le_of_ble_eq_true rfl) (fun X hX hR hin => ?_)
  refine g_lv1 (lv1 := [(0, .ref a)]) rfl ?_
  refine g_new hX (pc := 0) fcX8 q889 q890 q83 (fs := [.null, .null, .null, .null, .null, .null, .int 0]) (fun j hj => by match j, hj with | 0, _ => rfl | 1, _ => rfl | 2, _ => rfl | 3, _ => rfl | 4, _ => rfl | 5, _ => rfl | 6, _ => rfl | j + 7, h => exact absurd h (by omega)) (Nat.le_of_ble_eq_true rfl) (Nat.le_of_ble_eq_true rfl) dX8_copy_0 (fun q1 => ?_)
  refine g_dup hX (pc := 3) dX8_copy_3 rfl ?_
  refine g_callI hX (pc := 4) kX8_init (mt_Store_init E l q1) q891 [0] rfl rfl rfl (Nat.le_of_ble_eq_true rfl) (Nat.le_of_ble_eq_true rfl) (Nat.le_of_ble_eq_true rfl) (Nat.le_of_ble_eq_true rfl) (Nat.le_of_ble_eq_true rfl) dX8_copy_4 (fun v w1 hp => ?_)
  obtain ⟨w2, h3, rfl, rfl⟩ := hp
  refine g_nrm (cs1 := [w2, fz]) (st1 := [.ref q1]) rfl rfl ?_
  refine g_astore_n hX (pc := 7) (lv1 := [(1, .ref q1), (0, .ref a)]) dX8_copy_7 (by decide) rfl ?_
  obtain ⟨sr4, hr5⟩ := h3
  obtain ⟨f6, f7, f8, f9, f10, f11, hS12, rfl⟩ := hr5
  refine g_fl (cs1 := [[(q1, ob 7 [.ref (sr4 0), .ref (sr4 1), .ref (sr4 2), .ref (sr4 3), .ref (sr4 4), .ref (sr4 5), .int (S0 6 0)])], [(sr4 0, iA (aC E 0) 4 f6)], [(sr4 1, iA (aC E 0) 4 f7)], [(sr4 2, iA (aC E 0) 4 f8)], [(sr4 3, iA (aC E 0) 4 f9)], [(sr4 4, iA (aC E 0) 4 f10)], [(sr4 5, iA (aC E 0) 4 f11)], fz]) rfl ?_
  refine g_aload_n hX (pc := 8) dX8_copy_8 1 rfl ?_
  refine g_getm hX (pc := 9) fcX8 (sp_in 7 rfl k0) 0 (by decide) q895 rfl (v := .ref (sr 0)) rfl dX8_copy_9 ?_
  refine g_iconst hX (pc := 12) (v := 0) dX8_copy_12 (by decide) ?_
  refine g_aload_n hX (pc := 13) dX8_copy_13 0 rfl ?_
  refine g_get hX (pc := 14) fcX8 0 rfl 0 (by decide) q895 rfl (v := .ref (sr4 0)) rfl dX8_copy_14 ?_
  refine g_iconst hX (pc := 17) (v := 0) dX8_copy_17 (by decide) ?_
  refine g_iconst hX (pc := 18) (v := 4) dX8_copy_18 (by decide) ?_
  refine g_copyi hX (pc := 19) q919 q_ac1 q_ac2 q_ac3 (sp_in 7 rfl k1) 1 (cs1 := [[(q1, ob 7 [.ref (sr4 0), .ref (sr4 1), .ref (sr4 2), .ref (sr4 3), .ref (sr4 4), .ref (sr4 5), .int (S0 6 0)])], [(sr4 0, iA (aC E 0) 4 (va_cpy f0 f6 0 0 4))], [(sr4 1, iA (aC E 0) 4 f7)], [(sr4 2, iA (aC E 0) 4 f8)], [(sr4 3, iA (aC E 0) 4 f9)], [(sr4 4, iA (aC E 0) 4 f10)], [(sr4 5, iA (aC E 0) 4 f11)], fz]) rfl (by decide) (by decide) (by decide) (by decide) (by decide) (g1 := (va_cpy f0 f6 0 0 4)) rfl rfl (Nat.le_of_ble_eq_true rfl) (Nat.le_of_ble_eq_true rfl) dX8_copy_19 ?_
  refine g_aload_n hX (pc := 22) dX8_copy_22 1 rfl ?_
  refine g_getm hX (pc := 23) fcX8 (sp_in 7 rfl k0) 1 (by decide) q897 rfl (v := .ref (sr 1)) rfl dX8_copy_23 ?_
  refine g_iconst hX (pc := 26) (v := 0) dX8_copy_26 (by decide) ?_
  refine g_aload_n hX (pc := 27) dX8_copy_27 0 rfl ?_
  refine g_get hX (pc := 28) fcX8 0 rfl 1 (by decide) q897 rfl (v := .ref (sr4 1)) rfl dX8_copy_28 ?_
  refine g_iconst hX (pc := 31) (v := 0) dX8_copy_31 (by decide) ?_
  refine g_iconst hX (pc := 32) (v := 4) dX8_copy_32 (by decide) ?_
  refine g_copyi hX (pc := 33) q919 q_ac1 q_ac2 q_ac3 (sp_in 7 rfl k2) 2 (cs1 := [[(q1, ob 7 [.ref (sr4 0), .ref (sr4 1), .ref (sr4 2), .ref (sr4 3), .ref (sr4 4), .ref (sr4 5), .int (S0 6 0)])], [(sr4 0, iA (aC E 0) 4 (va_cpy f0 f6 0 0 4))], [(sr4 1, iA (aC E 0) 4 (va_cpy f1 f7 0 0 4))], [(sr4 2, iA (aC E 0) 4 f8)], [(sr4 3, iA (aC E 0) 4 f9)], [(sr4 4, iA (aC E 0) 4 f10)], [(sr4 5, iA (aC E 0) 4 f11)], fz]) rfl (by decide) (by decide) (by decide) (by decide) (by decide) (g1 := (va_cpy f1 f7 0 0 4)) rfl rfl (Nat.le_of_ble_eq_true rfl) (Nat.le_of_ble_eq_true rfl) dX8_copy_33 ?_
  refine g_aload_n hX (pc := 36) dX8_copy_36 1 rfl ?_
  refine g_getm hX (pc := 37) fcX8 (sp_in 7 rfl k0) 2 (by decide) q898 rfl (v := .ref (sr 2)) rfl dX8_copy_37 ?_
  refine g_iconst hX (pc := 40) (v := 0) dX8_copy_40 (by decide) ?_
  refine g_aload_n hX (pc := 41) dX8_copy_41 0 rfl ?_
  refine g_get hX (pc := 42) fcX8 0 rfl 2 (by decide) q898 rfl (v := .ref (sr4 2)) rfl dX8_copy_42 ?_
  refine g_iconst hX (pc := 45) (v := 0) dX8_copy_45 (by decide) ?_
  refine g_iconst hX (pc := 46) (v := 4) dX8_copy_46 (by decide) ?_
  refine g_copyi hX (pc := 47) q919 q_ac1 q_ac2 q_ac3 (sp_in 7 rfl k3) 3 (cs1 := [[(q1, ob 7 [.ref (sr4 0), .ref (sr4 1), .ref (sr4 2), .ref (sr4 3), .ref (sr4 4), .ref (sr4 5), .int (S0 6 0)])], [(sr4 0, iA (aC E 0) 4 (va_cpy f0 f6 0 0 4))], [(sr4 1, iA (aC E 0) 4 (va_cpy f1 f7 0 0 4))], [(sr4 2, iA (aC E 0) 4 (va_cpy f2 f8 0 0 4))], [(sr4 3, iA (aC E 0) 4 f9)], [(sr4 4, iA (aC E 0) 4 f10)], [(sr4 5, iA (aC E 0) 4 f11)], fz]) rfl (by decide) (by decide) (by decide) (by decide) (by decide) (g1 := (va_cpy f2 f8 0 0 4)) rfl rfl (Nat.le_of_ble_eq_true rfl) (Nat.le_of_ble_eq_true rfl) dX8_copy_47 ?_
  refine g_aload_n hX (pc := 50) dX8_copy_50 1 rfl ?_
  refine g_getm hX (pc := 51) fcX8 (sp_in 7 rfl k0) 3 (by decide) q899 rfl (v := .ref (sr 3)) rfl dX8_copy_51 ?_
  refine g_iconst hX (pc := 54) (v := 0) dX8_copy_54 (by decide) ?_
  refine g_aload_n hX (pc := 55) dX8_copy_55 0 rfl ?_
  refine g_get hX (pc := 56) fcX8 0 rfl 3 (by decide) q899 rfl (v := .ref (sr4 3)) rfl dX8_copy_56 ?_
  refine g_iconst hX (pc := 59) (v := 0) dX8_copy_59 (by decide) ?_
  refine g_iconst hX (pc := 60) (v := 4) dX8_copy_60 (by decide) ?_
  refine g_copyi hX (pc := 61) q919 q_ac1 q_ac2 q_ac3 (sp_in 7 rfl k4) 4 (cs1 := [[(q1, ob 7 [.ref (sr4 0), .ref (sr4 1), .ref (sr4 2), .ref (sr4 3), .ref (sr4 4), .ref (sr4 5), .int (S0 6 0)])], [(sr4 0, iA (aC E 0) 4 (va_cpy f0 f6 0 0 4))], [(sr4 1, iA (aC E 0) 4 (va_cpy f1 f7 0 0 4))], [(sr4 2, iA (aC E 0) 4 (va_cpy f2 f8 0 0 4))], [(sr4 3, iA (aC E 0) 4 (va_cpy f3 f9 0 0 4))], [(sr4 4, iA (aC E 0) 4 f10)], [(sr4 5, iA (aC E 0) 4 f11)], fz]) rfl (by decide) (by decide) (by decide) (by decide) (by decide) (g1 := (va_cpy f3 f9 0 0 4)) rfl rfl (Nat.le_of_ble_eq_true rfl) (Nat.le_of_ble_eq_true rfl) dX8_copy_61 ?_
  refine g_aload_n hX (pc := 64) dX8_copy_64 1 rfl ?_
  refine g_getm hX (pc := 65) fcX8 (sp_in 7 rfl k0) 4 (by decide) q900 rfl (v := .ref (sr 4)) rfl dX8_copy_65 ?_
  refine g_iconst hX (pc := 68) (v := 0) dX8_copy_68 (by decide) ?_
  refine g_aload_n hX (pc := 69) dX8_copy_69 0 rfl ?_
  refine g_get hX (pc := 70) fcX8 0 rfl 4 (by decide) q900 rfl (v := .ref (sr4 4)) rfl dX8_copy_70 ?_
  refine g_iconst hX (pc := 73) (v := 0) dX8_copy_73 (by decide) ?_
  refine g_iconst hX (pc := 74) (v := 4) dX8_copy_74 (by decide) ?_
  refine g_copyi hX (pc := 75) q919 q_ac1 q_ac2 q_ac3 (sp_in 7 rfl k5) 5 (cs1 := [[(q1, ob 7 [.ref (sr4 0), .ref (sr4 1), .ref (sr4 2), .ref (sr4 3), .ref (sr4 4), .ref (sr4 5), .int (S0 6 0)])], [(sr4 0, iA (aC E 0) 4 (va_cpy f0 f6 0 0 4))], [(sr4 1, iA (aC E 0) 4 (va_cpy f1 f7 0 0 4))], [(sr4 2, iA (aC E 0) 4 (va_cpy f2 f8 0 0 4))], [(sr4 3, iA (aC E 0) 4 (va_cpy f3 f9 0 0 4))], [(sr4 4, iA (aC E 0) 4 (va_cpy f4 f10 0 0 4))], [(sr4 5, iA (aC E 0) 4 f11)], fz]) rfl (by decide) (by decide) (by decide) (by decide) (by decide) (g1 := (va_cpy f4 f10 0 0 4)) rfl rfl (Nat.le_of_ble_eq_true rfl) (Nat.le_of_ble_eq_true rfl) dX8_copy_75 ?_
  refine g_aload_n hX (pc := 78) dX8_copy_78 1 rfl ?_
  refine g_getm hX (pc := 79) fcX8 (sp_in 7 rfl k0) 5 (by decide) q901 rfl (v := .ref (sr 5)) rfl dX8_copy_79 ?_
  refine g_iconst hX (pc := 82) (v := 0) dX8_copy_82 (by decide) ?_
  refine g_aload_n hX (pc := 83) dX8_copy_83 0 rfl ?_
  refine g_get hX (pc := 84) fcX8 0 rfl 5 (by decide) q901 rfl (v := .ref (sr4 5)) rfl dX8_copy_84 ?_
  refine g_iconst hX (pc := 87) (v := 0) dX8_copy_87 (by decide) ?_
  refine g_iconst hX (pc := 88) (v := 4) dX8_copy_88 (by decide) ?_
  refine g_copyi hX (pc := 89) q919 q_ac1 q_ac2 q_ac3 (sp_in 7 rfl k6) 6 (cs1 := [[(q1, ob 7 [.ref (sr4 0), .ref (sr4 1), .ref (sr4 2), .ref (sr4 3), .ref (sr4 4), .ref (sr4 5), .int (S0 6 0)])], [(sr4 0, iA (aC E 0) 4 (va_cpy f0 f6 0 0 4))], [(sr4 1, iA (aC E 0) 4 (va_cpy f1 f7 0 0 4))], [(sr4 2, iA (aC E 0) 4 (va_cpy f2 f8 0 0 4))], [(sr4 3, iA (aC E 0) 4 (va_cpy f3 f9 0 0 4))], [(sr4 4, iA (aC E 0) 4 (va_cpy f4 f10 0 0 4))], [(sr4 5, iA (aC E 0) 4 (va_cpy f5 f11 0 0 4))], fz]) rfl (by decide) (by decide) (by decide) (by decide) (by decide) (g1 := (va_cpy f5 f11 0 0 4)) rfl rfl (Nat.le_of_ble_eq_true rfl) (Nat.le_of_ble_eq_true rfl) dX8_copy_89 ?_
  refine g_aload_n hX (pc := 92) dX8_copy_92 0 rfl ?_
  refine g_aload_n hX (pc := 93) dX8_copy_93 1 rfl ?_
  refine g_getm hX (pc := 94) fcX8 (sp_in 7 rfl k0) 6 (by decide) q902 rfl (v := .int (S 6 0)) rfl dX8_copy_94 ?_
  refine g_put hX (pc := 97) fcX8 0 (fs1 := [.ref (sr4 0), .ref (sr4 1), .ref (sr4 2), .ref (sr4 3), .ref (sr4 4), .ref (sr4 5), .int (S 6 0)]) (cs1 := [[(q1, ob 7 [.ref (sr4 0), .ref (sr4 1), .ref (sr4 2), .ref (sr4 3), .ref (sr4 4), .ref (sr4 5), .int (S 6 0)])], [(sr4 0, iA (aC E 0) 4 (va_cpy f0 f6 0 0 4))], [(sr4 1, iA (aC E 0) 4 (va_cpy f1 f7 0 0 4))], [(sr4 2, iA (aC E 0) 4 (va_cpy f2 f8 0 0 4))], [(sr4 3, iA (aC E 0) 4 (va_cpy f3 f9 0 0 4))], [(sr4 4, iA (aC E 0) 4 (va_cpy f4 f10 0 0 4))], [(sr4 5, iA (aC E 0) 4 (va_cpy f5 f11 0 0 4))], fz]) rfl 6 (by decide) q902 rfl rfl rfl rfl (Nat.le_of_ble_eq_true rfl) rfl rfl dX8_copy_97 ?_
  refine g_aload_n hX (pc := 100) dX8_copy_100 0 rfl ?_
  refine g_pk [0, 0, 0, 0, 0, 0, 0] rfl ?_
  refine g_fl (cs1 := [[(q1, ob 7 [.ref (sr4 0), .ref (sr4 1), .ref (sr4 2), .ref (sr4 3), .ref (sr4 4), .ref (sr4 5), .int (S 6 0)]), (sr4 0, iA (aC E 0) 4 (va_cpy f0 f6 0 0 4)), (sr4 1, iA (aC E 0) 4 (va_cpy f1 f7 0 0 4)), (sr4 2, iA (aC E 0) 4 (va_cpy f2 f8 0 0 4)), (sr4 3, iA (aC E 0) 4 (va_cpy f3 f9 0 0 4)), (sr4 4, iA (aC E 0) 4 (va_cpy f4 f10 0 0 4)), (sr4 5, iA (aC E 0) 4 (va_cpy f5 f11 0 0 4))], fz]) rfl ?_
  refine g_aret hX (pc := 101) hR (by first | exact Or.inl ⟨_, rfl⟩ | exact Or.inr ⟨_, rfl⟩) ?_ (Nat.le_of_ble_eq_true rfl) (Nat.le_of_ble_eq_true rfl) dX8_copy_101
  refine ⟨_, _, IsSt.mk6 (S := S) ?_ rfl, rfl, rfl⟩
  intro k hk
  obtain ⟨e0, e1, e2, e3, e4, e5⟩ := hS k hk
  exact ⟨(cpy4 hk).trans e0, (cpy4 hk).trans e1, (cpy4 hk).trans e2, (cpy4 hk).trans e3, (cpy4 hk).trans e4, (cpy4 hk).trans e5⟩

set_option maxHeartbeats 4000000 in
theorem mt_Machine_forget (E : EE) (l : Launch) (m : Nat) (num : Int32) (rn : Nat) (rk : Nat) (rl : Nat) (rs : Nat) (rst : Nat) (role : Int32) (vt : Int32) (su : Int32) (dn : Int32) (lz : Int32) (la : Nat) (t : Int32) (v : Int32) (b : Nat) (bt : Int32) (sp : Nat) (S : PS) (fz : va_W) (hF : (StIn E fz sp S)) : Mt E l yX9_forget cX9_forget 1 none 3 7 31 61 [.ref m] [[(m, ob 8 [.int num, .ref rn, .ref rk, .ref rl, .ref rs, .ref rst, .int role, .int vt, .int su, .int dn, .int lz])], [(rl, ob 9 [.ref la, .int t, .int v, .int (nI b), .int bt, .ref sp])], fz] (fun (v_ : Option Value) (cs_ : List va_W) => ∃ (q : Nat) (w1 : va_W), IsSt E q S w1 ∧ v_ = none ∧ cs_ = [[(m, ob 8 [.int num, .ref rn, .ref rk, .ref rl, .ref rs, .ref q, .int role, .int vt, .int (nI b), .int (nI b), .int lz])], [(rl, ob 9 [.ref la, .int t, .int v, .int (nI b), .int bt, .ref sp])], fz, w1]) := by
  refine Mt.of (by decide) (Nat.le_of_ble_eq_true rfl) (fun X hX hR hin => ?_)
  refine g_lv1 (lv1 := [(0, .ref m)]) rfl ?_
  refine g_aload_n hX (pc := 0) dX9_forget_0 0 rfl ?_
  refine g_aload_n hX (pc := 1) dX9_forget_1 0 rfl ?_
  refine g_get hX (pc := 2) fcX9 0 rfl 3 (by decide) q931 rfl (v := .ref rl) rfl dX9_forget_2 ?_
  refine g_getN hX (pc := 5) fcX10 1 rfl 5 (by decide) q858 rfl (v := .ref sp) rfl dX9_forget_5 ?_
  obtain ⟨fsS, hmS⟩ := StIn.head hF
  refine g_callV hX (pc := 8) kX8_copy (mt_Store_copyF E l sp S fz (hF)) q885 fcX8 (sp_in 2 rfl hmS) [2] rfl rfl rfl (Nat.le_of_ble_eq_true rfl) (Nat.le_of_ble_eq_true rfl) (Nat.le_of_ble_eq_true rfl) (Nat.le_of_ble_eq_true rfl) (Nat.le_of_ble_eq_true rfl) dX9_forget_8 (fun v w1 hp => ?_)
  obtain ⟨q1, w12, h3, rfl, rfl⟩ := hp
  refine g_nrm (cs1 := [w12, fz, [(m, ob 8 [.int num, .ref rn, .ref rk, .ref rl, .ref rs, .ref rst, .int role, .int vt, .int su, .int dn, .int lz])], [(rl, ob 9 [.ref la, .int t, .int v, .int (nI b), .int bt, .ref sp])]]) (st1 := [.ref q1, .ref m]) rfl rfl ?_
  refine g_put hX (pc := 11) fcX9 2 (fs1 := [.int num, .ref rn, .ref rk, .ref rl, .ref rs, .ref q1, .int role, .int vt, .int su, .int dn, .int lz]) (cs1 := [w12, fz, [(m, ob 8 [.int num, .ref rn, .ref rk, .ref rl, .ref rs, .ref q1, .int role, .int vt, .int su, .int dn, .int lz])], [(rl, ob 9 [.ref la, .int t, .int v, .int (nI b), .int bt, .ref sp])]]) rfl 5 (by decide) q937 rfl rfl rfl rfl (Nat.le_of_ble_eq_true rfl) rfl rfl dX9_forget_11 ?_
  refine g_aload_n hX (pc := 14) dX9_forget_14 0 rfl ?_
  refine g_aload_n hX (pc := 15) dX9_forget_15 0 rfl ?_
  refine g_get hX (pc := 16) fcX9 2 rfl 3 (by decide) q931 rfl (v := .ref rl) rfl dX9_forget_16 ?_
  refine g_getN hX (pc := 19) fcX10 3 rfl 3 (by decide) q851 rfl (v := .int (nI b)) rfl dX9_forget_19 ?_
  refine g_put hX (pc := 22) fcX9 2 (fs1 := [.int num, .ref rn, .ref rk, .ref rl, .ref rs, .ref q1, .int role, .int vt, .int su, .int (nI b), .int lz]) (cs1 := [w12, fz, [(m, ob 8 [.int num, .ref rn, .ref rk, .ref rl, .ref rs, .ref q1, .int role, .int vt, .int su, .int (nI b), .int lz])], [(rl, ob 9 [.ref la, .int t, .int v, .int (nI b), .int bt, .ref sp])]]) rfl 9 (by decide) q946 rfl rfl rfl rfl (Nat.le_of_ble_eq_true rfl) rfl rfl dX9_forget_22 ?_
  refine g_aload_n hX (pc := 25) dX9_forget_25 0 rfl ?_
  refine g_aload_n hX (pc := 26) dX9_forget_26 0 rfl ?_
  refine g_get hX (pc := 27) fcX9 2 rfl 3 (by decide) q931 rfl (v := .ref rl) rfl dX9_forget_27 ?_
  refine g_getN hX (pc := 30) fcX10 3 rfl 3 (by decide) q851 rfl (v := .int (nI b)) rfl dX9_forget_30 ?_
  refine g_put hX (pc := 33) fcX9 2 (fs1 := [.int num, .ref rn, .ref rk, .ref rl, .ref rs, .ref q1, .int role, .int vt, .int (nI b), .int (nI b), .int lz]) (cs1 := [w12, fz, [(m, ob 8 [.int num, .ref rn, .ref rk, .ref rl, .ref rs, .ref q1, .int role, .int vt, .int (nI b), .int (nI b), .int lz])], [(rl, ob 9 [.ref la, .int t, .int v, .int (nI b), .int bt, .ref sp])]]) rfl 8 (by decide) q944 rfl rfl rfl rfl (Nat.le_of_ble_eq_true rfl) rfl rfl dX9_forget_33 ?_
  refine g_pk [2, 2, 1, 0] rfl ?_
  refine g_cs (cs1 := [[(m, ob 8 [.int num, .ref rn, .ref rk, .ref rl, .ref rs, .ref q1, .int role, .int vt, .int (nI b), .int (nI b), .int lz])], [(rl, ob 9 [.ref la, .int t, .int v, .int (nI b), .int bt, .ref sp])], fz, w12]) rfl ?_
  refine g_vret hX (pc := 36) hR ?_ (Nat.le_of_ble_eq_true rfl) (Nat.le_of_ble_eq_true rfl) dX9_forget_36
  exact ⟨_, _, h3, rfl, rfl⟩

set_option maxHeartbeats 4000000 in
theorem mt_Machine_crash (E : EE) (l : Launch) (m : Nat) (num : Int32) (rn : Nat) (rk : Nat) (rl : Nat) (rs : Nat) (rst : Nat) (role : Int32) (vt : Int32) (su : Int32) (dn : Int32) (lz : Int32) (la2 : Nat) (t2 : Int32) (v2 : Int32) (b2 : Nat) (bt2 : Int32) (sp2 : Nat) (fz : va_W) (ges2 : List (Nat × PEn)) (wl2 : va_W) (S : PS) (hE2 : EL E fz la2 ges2 wl2) (hn : (List.length ges2 ≤ 48)) (hF : (StIn E fz sp2 S)) : Mt E l yX9_crash cX9_crash 1 none 8 (9 + fl_mc (List.length ges2)) (40 + fl_ms (List.length ges2)) 193 [.ref m] [[(m, ob 8 [.int num, .ref rn, .ref rk, .ref rl, .ref rs, .ref rst, .int role, .int vt, .int su, .int dn, .int lz])], [(rs, ob 9 [.ref la2, .int t2, .int v2, .int (nI b2), .int bt2, .ref sp2])], wl2, fz] (fun (v_ : Option Value) (cs_ : List va_W) => ∃ (q : Nat) (lb : Nat) (w1 : va_W) (r : Nat) (w2 : va_W), EL E fz lb ges2 w1 ∧ IsSt E r S w2 ∧ v_ = none ∧ cs_ = [[(m, ob 8 [.int num, .ref rn, .ref rk, .ref q, .ref rs, .ref r, .int 0, .int 0, .int (nI b2), .int (nI b2), .int lz])], [(q, ob 9 [.ref lb, .int t2, .int v2, .int (nI b2), .int bt2, .ref sp2])], w1, w2, [(rs, ob 9 [.ref la2, .int t2, .int v2, .int (nI b2), .int bt2, .ref sp2])], wl2, fz]) := by
  refine Mt.of (by decide) (Nat.le_of_ble_eq_true rfl) (fun X hX hR hin => ?_)
  refine g_lv1 (lv1 := [(0, .ref m)]) rfl ?_
  refine g_aload_n hX (pc := 0) dX9_crash_0 0 rfl ?_
  refine g_iconst hX (pc := 1) (v := 0) dX9_crash_1 (by decide) ?_
  refine g_put hX (pc := 2) fcX9 0 (fs1 := [.int num, .ref rn, .ref rk, .ref rl, .ref rs, .ref rst, .int 0, .int vt, .int su, .int dn, .int lz]) (cs1 := [[(m, ob 8 [.int num, .ref rn, .ref rk, .ref rl, .ref rs, .ref rst, .int 0, .int vt, .int su, .int dn, .int lz])], [(rs, ob 9 [.ref la2, .int t2, .int v2, .int (nI b2), .int bt2, .ref sp2])], wl2, fz]) rfl 6 (by decide) q940 rfl rfl rfl rfl (Nat.le_of_ble_eq_true rfl) rfl rfl dX9_crash_2 ?_
  refine g_aload_n hX (pc := 5) dX9_crash_5 0 rfl ?_
  refine g_iconst hX (pc := 6) (v := 0) dX9_crash_6 (by decide) ?_
  refine g_put hX (pc := 7) fcX9 0 (fs1 := [.int num, .ref rn, .ref rk, .ref rl, .ref rs, .ref rst, .int 0, .int 0, .int su, .int dn, .int lz]) (cs1 := [[(m, ob 8 [.int num, .ref rn, .ref rk, .ref rl, .ref rs, .ref rst, .int 0, .int 0, .int su, .int dn, .int lz])], [(rs, ob 9 [.ref la2, .int t2, .int v2, .int (nI b2), .int bt2, .ref sp2])], wl2, fz]) rfl 7 (by decide) q942 rfl rfl rfl rfl (Nat.le_of_ble_eq_true rfl) rfl rfl dX9_crash_7 ?_
  refine g_aload_n hX (pc := 10) dX9_crash_10 0 rfl ?_
  refine g_aload_n hX (pc := 11) dX9_crash_11 0 rfl ?_
  refine g_get hX (pc := 12) fcX9 0 rfl 4 (by decide) q935 rfl (v := .ref rs) rfl dX9_crash_12 ?_
  refine g_callV hX (pc := 15) kX10_copy (mt_Log_copy E l rs la2 t2 v2 b2 bt2 sp2 fz ges2 wl2 hE2 (hn)) q827 fcX10 (sp_mem (i := 1) rfl) [1, 1, 1] rfl rfl rfl (Nat.le_of_ble_eq_true rfl) (Nat.le_of_ble_eq_true rfl) (Nat.le_of_ble_eq_true rfl) (by omega) (by omega) dX9_crash_15 (fun v w1 hp => ?_)
  obtain ⟨q1, lb2, w13, h4, rfl, rfl⟩ := hp
  refine g_nrm (cs1 := [[(q1, ob 9 [.ref lb2, .int t2, .int v2, .int (nI b2), .int bt2, .ref sp2])], w13, [(rs, ob 9 [.ref la2, .int t2, .int v2, .int (nI b2), .int bt2, .ref sp2])], wl2, fz, [(m, ob 8 [.int num, .ref rn, .ref rk, .ref rl, .ref rs, .ref rst, .int 0, .int 0, .int su, .int dn, .int lz])]]) (st1 := [.ref q1, .ref m]) rfl rfl ?_
  refine g_put hX (pc := 18) fcX9 5 (fs1 := [.int num, .ref rn, .ref rk, .ref q1, .ref rs, .ref rst, .int 0, .int 0, .int su, .int dn, .int lz]) (cs1 := [[(q1, ob 9 [.ref lb2, .int t2, .int v2, .int (nI b2), .int bt2, .ref sp2])], w13, [(rs, ob 9 [.ref la2, .int t2, .int v2, .int (nI b2), .int bt2, .ref sp2])], wl2, fz, [(m, ob 8 [.int num, .ref rn, .ref rk, .ref q1, .ref rs, .ref rst, .int 0, .int 0, .int su, .int dn, .int lz])]]) rfl 3 (by decide) q931 rfl rfl rfl rfl (Nat.le_of_ble_eq_true rfl) rfl rfl dX9_crash_18 ?_
  refine g_aload_n hX (pc := 21) dX9_crash_21 0 rfl ?_
  refine g_callV hX (pc := 22) kX9_forget (mt_Machine_forget E l m num rn rk q1 rs rst 0 0 su dn lz lb2 t2 v2 b2 bt2 sp2 S fz (hF)) q1482 fcX9 (sp_mem (i := 5) rfl) [5, 0, 3] rfl rfl rfl (Nat.le_of_ble_eq_true rfl) (Nat.le_of_ble_eq_true rfl) (Nat.le_of_ble_eq_true rfl) (by omega) (by omega) dX9_crash_22 (fun v w1 hp => ?_)
  obtain ⟨q5, w16, h7, rfl, rfl⟩ := hp
  refine g_nrm (cs1 := [[(m, ob 8 [.int num, .ref rn, .ref rk, .ref q1, .ref rs, .ref q5, .int 0, .int 0, .int (nI b2), .int (nI b2), .int lz])], [(q1, ob 9 [.ref lb2, .int t2, .int v2, .int (nI b2), .int bt2, .ref sp2])], fz, w16, w13, [(rs, ob 9 [.ref la2, .int t2, .int v2, .int (nI b2), .int bt2, .ref sp2])], wl2]) (st1 := []) rfl rfl ?_
  refine g_pk [0, 0, 2, 1, 1, 1, 0] rfl ?_
  refine g_cs (cs1 := [[(m, ob 8 [.int num, .ref rn, .ref rk, .ref q1, .ref rs, .ref q5, .int 0, .int 0, .int (nI b2), .int (nI b2), .int lz])], [(q1, ob 9 [.ref lb2, .int t2, .int v2, .int (nI b2), .int bt2, .ref sp2])], w13, w16, [(rs, ob 9 [.ref la2, .int t2, .int v2, .int (nI b2), .int bt2, .ref sp2])], wl2, fz]) rfl ?_
  refine g_vret hX (pc := 25) hR ?_ (by omega) (by omega) dX9_crash_25
  exact ⟨_, _, _, _, _, h4, h7, rfl, rfl⟩

set_option maxHeartbeats 4000000 in
theorem mt_Entry_isSame (E : EE) (l : Launch) (a : Nat) (t : Int32) (r : Int32) (a2 : Nat) (t2 : Int32) (r2 : Int32) (fz : va_W) (k1 : ((a, ob 12 [.int t, .int r]) ∈ fz)) (k2 : ((a2, ob 12 [.int t2, .int r2]) ∈ fz)) : Mt E l yX14_isSame cX14_isSame 2 (some .boolean) 1 0 0 1 [.ref a, .ref a2] [fz] (fun (v_ : Option Value) (cs_ : List va_W) => v_ = some (.int (if t = t2 ∧ r = r2 then 1 else 0)) ∧ cs_ = [fz]) := by
  refine Mt.of (by decide) (Nat.le_of_ble_eq_true rfl) (fun X hX hR hin => ?_)
  refine g_lv1 (lv1 := [(0, .ref a), (1, .ref a2)]) rfl ?_
  refine g_aload_n hX (pc := 0) dX14_isSame_0 0 rfl ?_
  refine g_getm hX (pc := 1) fcX14 (sp_in 0 rfl k1) 0 (by decide) q1116 rfl (v := .int t) rfl dX14_isSame_1 ?_
  refine g_aload_n hX (pc := 4) dX14_isSame_4 1 rfl ?_
  refine g_getm hX (pc := 5) fcX14 (sp_in 0 rfl k2) 0 (by decide) q1116 rfl (v := .int t2) rfl dX14_isSame_5 ?_
  refine g_val (v := if t = t2 then (if r = r2 then 1 else 0) else 0) (pcJ := 27) (st1 := []) (fun hj1 => ?_) ?_
  · refine g_icmp_ne hX (pc := 8) (tgt := 26) dX14_isSame_8 rfl (fun c2 => ?_) (fun c2 => ?_)
    · refine g_iconst hX (pc := 26) (v := 0) dX14_isSame_26 (by decide) ?_
      exact hj1 _ (by rw [if_neg c2])
    · refine g_aload_n hX (pc := 11) dX14_isSame_11 0 rfl ?_
      refine g_getm hX (pc := 12) fcX14 (sp_in 0 rfl k1) 1 (by decide) q1120 rfl (v := .int r) rfl dX14_isSame_12 ?_
      refine g_aload_n hX (pc := 15) dX14_isSame_15 1 rfl ?_
      refine g_getm hX (pc := 16) fcX14 (sp_in 0 rfl k2) 1 (by decide) q1120 rfl (v := .int r2) rfl dX14_isSame_16 ?_
      refine g_icmp_ne hX (pc := 19) (tgt := 26) dX14_isSame_19 rfl (fun c3 => ?_) (fun c3 => ?_)
      · refine g_iconst hX (pc := 26) (v := 0) dX14_isSame_26 (by decide) ?_
        exact hj1 _ (by rw [if_pos c2, if_neg c3])
      · refine g_iconst hX (pc := 22) (v := 1) dX14_isSame_22 (by decide) ?_
        refine g_goto hX (pc := 23) (tgt := 27) dX14_isSame_23 rfl ?_
        exact hj1 _ (by rw [if_pos c2, if_pos c3])
  refine g_zret hX (pc := 27) hR (by (repeat' split) <;> rfl) ?_ (Nat.le_of_ble_eq_true rfl) (Nat.le_of_ble_eq_true rfl) dX14_isSame_27
  refine ⟨?_, rfl⟩
  by_cases h1 : t = t2 <;> by_cases h2 : r = r2 <;> simp [h1, h2]

set_option maxHeartbeats 4000000 in
theorem mt_Message_init (E : EE) (l : Launch) (a : Nat) (wd : Nat) (to : Int32) (nb : Int32) (it : Int32) (m : Nat) (num : Int32) (rn : Nat) (rk : Nat) (rl : Nat) (rs : Nat) (rst : Nat) (role : Int32) (vt : Int32) (su : Int32) (dn : Int32) (lz : Int32) (la : Nat) (t : Int32) (v : Int32) (b : Nat) (bt : Int32) (sp : Nat) : Mt E l yX13_init cX13_init 6 none 1 1 0 12 [.ref a, .ref wd, .int to, .ref m, .int nb, .int it] [[(a, ob 11 [.null, .int 0, .int 0, .int 0, .int 0, .int 0, .int 0, .int 0, .null, .null])], [(m, ob 8 [.int num, .ref rn, .ref rk, .ref rl, .ref rs, .ref rst, .int role, .int vt, .int su, .int dn, .int lz])], [(rl, ob 9 [.ref la, .int t, .int v, .int (nI b), .int bt, .ref sp])]] (fun (v_ : Option Value) (cs_ : List va_W) => ∃ (ra : Nat), v_ = none ∧ cs_ = [[(a, ob 11 [.ref wd, .int num, .int to, .int t, .int nb, .int it, .int 0, .int 0, .ref ra, .ref sp])], [(ra, qA (aC E 3) 0 (fun _ => none))], [(m, ob 8 [.int num, .ref rn, .ref rk, .ref rl, .ref rs, .ref rst, .int role, .int vt, .int su, .int dn, .int lz])], [(rl, ob 9 [.ref la, .int t, .int v, .int (nI b), .int bt, .ref sp])]]) := by
  refine Mt.of (by decide) (Nat.le_of_ble_eq_true rfl) (fun X hX hR hin => ?_)
  refine g_lv1 (lv1 := [(0, .ref a), (1, .ref wd), (2, .int to), (3, .ref m), (4, .int nb), (5, .int it)]) rfl ?_
  refine g_aload_n hX (pc := 0) dX13_init_0 0 rfl ?_
  refine g_objInit hX (pc := 1) q1052 q_oi1 q_oi2 (Nat.le_of_ble_eq_true rfl) (Nat.le_of_ble_eq_true rfl) dX13_init_1 ?_
  refine g_aload_n hX (pc := 4) dX13_init_4 0 rfl ?_
  refine g_iconst hX (pc := 5) (v := 0) dX13_init_5 (by decide) ?_
  refine g_newq hX (pc := 6) (t0 := 3) rfl q1053 hX.2.2.2.2.2.2.2.2.2.1.1.2.2.1 0 (by decide) (by decide) (Nat.le_of_ble_eq_true rfl) (Nat.le_of_ble_eq_true rfl) (Nat.le_of_ble_eq_true rfl) dX13_init_6 (fun q1 => ?_)
  refine g_put hX (pc := 9) fcX13 1 (fs1 := [.null, .int 0, .int 0, .int 0, .int 0, .int 0, .int 0, .int 0, .ref q1, .null]) (cs1 := [[(q1, qA (aC E 3) 0 (fun _ => none))], [(a, ob 11 [.null, .int 0, .int 0, .int 0, .int 0, .int 0, .int 0, .int 0, .ref q1, .null])], [(m, ob 8 [.int num, .ref rn, .ref rk, .ref rl, .ref rs, .ref rst, .int role, .int vt, .int su, .int dn, .int lz])], [(rl, ob 9 [.ref la, .int t, .int v, .int (nI b), .int bt, .ref sp])]]) rfl 8 (by decide) q1071 rfl rfl rfl rfl (Nat.le_of_ble_eq_true rfl) rfl rfl dX13_init_9 ?_
  refine g_aload_n hX (pc := 12) dX13_init_12 0 rfl ?_
  refine g_aload_n hX (pc := 13) dX13_init_13 1 rfl ?_
  refine g_putF hX (pc := 14) fcX13 1 (fs1 := [.ref wd, .int 0, .int 0, .int 0, .int 0, .int 0, .int 0, .int 0, .ref q1, .null]) (cs1 := [[(q1, qA (aC E 3) 0 (fun _ => none))], [(a, ob 11 [.ref wd, .int 0, .int 0, .int 0, .int 0, .int 0, .int 0, .int 0, .ref q1, .null])], [(m, ob 8 [.int num, .ref rn, .ref rk, .ref rl, .ref rs, .ref rst, .int role, .int vt, .int su, .int dn, .int lz])], [(rl, ob 9 [.ref la, .int t, .int v, .int (nI b), .int bt, .ref sp])]]) rfl 0 (by decide) q1055 rfl rfl hin rfl rfl rfl (Nat.le_of_ble_eq_true rfl) rfl rfl dX13_init_14 ?_
  refine g_aload_n hX (pc := 17) dX13_init_17 0 rfl ?_
  refine g_iload_n hX (pc := 18) dX13_init_18 2 rfl ?_
  refine g_putF hX (pc := 19) fcX13 1 (fs1 := [.ref wd, .int 0, .int to, .int 0, .int 0, .int 0, .int 0, .int 0, .ref q1, .null]) (cs1 := [[(q1, qA (aC E 3) 0 (fun _ => none))], [(a, ob 11 [.ref wd, .int 0, .int to, .int 0, .int 0, .int 0, .int 0, .int 0, .ref q1, .null])], [(m, ob 8 [.int num, .ref rn, .ref rk, .ref rl, .ref rs, .ref rst, .int role, .int vt, .int su, .int dn, .int lz])], [(rl, ob 9 [.ref la, .int t, .int v, .int (nI b), .int bt, .ref sp])]]) rfl 2 (by decide) q1060 rfl rfl hin rfl rfl rfl (Nat.le_of_ble_eq_true rfl) rfl rfl dX13_init_19 ?_
  refine g_aload_n hX (pc := 22) dX13_init_22 0 rfl ?_
  refine g_aload_n hX (pc := 23) dX13_init_23 3 rfl ?_
  refine g_getN hX (pc := 24) fcX9 2 rfl 0 (by decide) q924 rfl (v := .int num) rfl dX13_init_24 ?_
  refine g_putF hX (pc := 27) fcX13 1 (fs1 := [.ref wd, .int num, .int to, .int 0, .int 0, .int 0, .int 0, .int 0, .ref q1, .null]) (cs1 := [[(q1, qA (aC E 3) 0 (fun _ => none))], [(a, ob 11 [.ref wd, .int num, .int to, .int 0, .int 0, .int 0, .int 0, .int 0, .ref q1, .null])], [(m, ob 8 [.int num, .ref rn, .ref rk, .ref rl, .ref rs, .ref rst, .int role, .int vt, .int su, .int dn, .int lz])], [(rl, ob 9 [.ref la, .int t, .int v, .int (nI b), .int bt, .ref sp])]]) rfl 1 (by decide) q1058 rfl rfl hin rfl rfl rfl (Nat.le_of_ble_eq_true rfl) rfl rfl dX13_init_27 ?_
  refine g_aload_n hX (pc := 30) dX13_init_30 0 rfl ?_
  refine g_iload hX (pc := 31) dX13_init_31 4 rfl ?_
  refine g_putF hX (pc := 33) fcX13 1 (fs1 := [.ref wd, .int num, .int to, .int 0, .int nb, .int 0, .int 0, .int 0, .ref q1, .null]) (cs1 := [[(q1, qA (aC E 3) 0 (fun _ => none))], [(a, ob 11 [.ref wd, .int num, .int to, .int 0, .int nb, .int 0, .int 0, .int 0, .ref q1, .null])], [(m, ob 8 [.int num, .ref rn, .ref rk, .ref rl, .ref rs, .ref rst, .int role, .int vt, .int su, .int dn, .int lz])], [(rl, ob 9 [.ref la, .int t, .int v, .int (nI b), .int bt, .ref sp])]]) rfl 4 (by decide) q1064 rfl rfl hin rfl rfl rfl (Nat.le_of_ble_eq_true rfl) rfl rfl dX13_init_33 ?_
  refine g_aload_n hX (pc := 36) dX13_init_36 0 rfl ?_
  refine g_iload hX (pc := 37) dX13_init_37 5 rfl ?_
  refine g_putF hX (pc := 39) fcX13 1 (fs1 := [.ref wd, .int num, .int to, .int 0, .int nb, .int it, .int 0, .int 0, .ref q1, .null]) (cs1 := [[(q1, qA (aC E 3) 0 (fun _ => none))], [(a, ob 11 [.ref wd, .int num, .int to, .int 0, .int nb, .int it, .int 0, .int 0, .ref q1, .null])], [(m, ob 8 [.int num, .ref rn, .ref rk, .ref rl, .ref rs, .ref rst, .int role, .int vt, .int su, .int dn, .int lz])], [(rl, ob 9 [.ref la, .int t, .int v, .int (nI b), .int bt, .ref sp])]]) rfl 5 (by decide) q1066 rfl rfl hin rfl rfl rfl (Nat.le_of_ble_eq_true rfl) rfl rfl dX13_init_39 ?_
  refine g_aload_n hX (pc := 42) dX13_init_42 0 rfl ?_
  refine g_aload_n hX (pc := 43) dX13_init_43 3 rfl ?_
  refine g_getN hX (pc := 44) fcX9 2 rfl 3 (by decide) q932 rfl (v := .ref rl) rfl dX13_init_44 ?_
  refine g_getN hX (pc := 47) fcX10 3 rfl 1 (by decide) q842 rfl (v := .int t) rfl dX13_init_47 ?_
  refine g_putF hX (pc := 50) fcX13 1 (fs1 := [.ref wd, .int num, .int to, .int t, .int nb, .int it, .int 0, .int 0, .ref q1, .null]) (cs1 := [[(q1, qA (aC E 3) 0 (fun _ => none))], [(a, ob 11 [.ref wd, .int num, .int to, .int t, .int nb, .int it, .int 0, .int 0, .ref q1, .null])], [(m, ob 8 [.int num, .ref rn, .ref rk, .ref rl, .ref rs, .ref rst, .int role, .int vt, .int su, .int dn, .int lz])], [(rl, ob 9 [.ref la, .int t, .int v, .int (nI b), .int bt, .ref sp])]]) rfl 3 (by decide) q1062 rfl rfl hin rfl rfl rfl (Nat.le_of_ble_eq_true rfl) rfl rfl dX13_init_50 ?_
  refine g_aload_n hX (pc := 53) dX13_init_53 0 rfl ?_
  refine g_aload_n hX (pc := 54) dX13_init_54 3 rfl ?_
  refine g_getN hX (pc := 55) fcX9 2 rfl 3 (by decide) q932 rfl (v := .ref rl) rfl dX13_init_55 ?_
  refine g_getN hX (pc := 58) fcX10 3 rfl 5 (by decide) q857 rfl (v := .ref sp) rfl dX13_init_58 ?_
  refine g_putF hX (pc := 61) fcX13 1 (fs1 := [.ref wd, .int num, .int to, .int t, .int nb, .int it, .int 0, .int 0, .ref q1, .ref sp]) (cs1 := [[(q1, qA (aC E 3) 0 (fun _ => none))], [(a, ob 11 [.ref wd, .int num, .int to, .int t, .int nb, .int it, .int 0, .int 0, .ref q1, .ref sp])], [(m, ob 8 [.int num, .ref rn, .ref rk, .ref rl, .ref rs, .ref rst, .int role, .int vt, .int su, .int dn, .int lz])], [(rl, ob 9 [.ref la, .int t, .int v, .int (nI b), .int bt, .ref sp])]]) rfl 9 (by decide) q1073 rfl rfl hin rfl rfl rfl (Nat.le_of_ble_eq_true rfl) rfl rfl dX13_init_61 ?_
  refine g_pk [1, 0, 0, 0] rfl ?_
  refine g_cs (cs1 := [[(a, ob 11 [.ref wd, .int num, .int to, .int t, .int nb, .int it, .int 0, .int 0, .ref q1, .ref sp])], [(q1, qA (aC E 3) 0 (fun _ => none))], [(m, ob 8 [.int num, .ref rn, .ref rk, .ref rl, .ref rs, .ref rst, .int role, .int vt, .int su, .int dn, .int lz])], [(rl, ob 9 [.ref la, .int t, .int v, .int (nI b), .int bt, .ref sp])]]) rfl ?_
  refine g_vret hX (pc := 64) hR ?_ (Nat.le_of_ble_eq_true rfl) (Nat.le_of_ble_eq_true rfl) dX13_init_64
  exact ⟨_, rfl, rfl⟩

set_option maxHeartbeats 4000000 in
theorem mt_Message_told (E : EE) (l : Launch) (a : Nat) (g : PMg) (fz : va_W) (wh : Nat) (hg : (MsgIn E fz a g)) (hw5 : (gW g < 5)) (hh : (wh < 7)) (hb : (List.length (gE g) ≤ 1000)) : Mt E l yX13_told cX13_told 2 (some .int) 2 0 0 21 [.ref a, .int (nI wh)] [fz] (fun (v_ : Option Value) (cs_ : List va_W) => v_ = some (.int (gTold g wh)) ∧ cs_ = [fz]) := by
  obtain ⟨ra, sp, ges, f, k1, k2, h3, h4, h5, h6⟩ := hg
  have hlen : List.length ges = List.length (gE g) := by rw [← h4, List.length_map]
  refine Mt.of (by decide) (Nat.le_of_ble_eq_true rfl) (fun X hX hR hin => ?_)
  refine g_lv1 (lv1 := [(0, .ref a), (1, .int (nI wh))]) rfl ?_
  refine g_iload_n hX (pc := 0) dX13_told_0 1 rfl ?_
  rcases (show wh = 0 ∨ wh = 1 ∨ wh = 2 ∨ wh = 3 ∨ wh = 4 ∨ wh = 5 ∨ (wh < 0 ∨ 5 < wh) by omega) with h1_0 | h1_1 | h1_2 | h1_3 | h1_4 | h1_5 | h1_d
  · refine g_tableIn hX (pc := 1) (tgt := 40) (off := 39) dX13_told_1 (by rw [h1_0]; decide) (by rw [h1_0]; decide) (by rw [h1_0]; rfl) rfl ?_
    refine g_aload_n hX (pc := 40) dX13_told_40 0 rfl ?_
    refine g_getm hX (pc := 41) fcX13 (sp_in 0 rfl k1) 0 (by decide) q1055 rfl (v := .ref (aW E (gW g))) rfl dX13_told_41 ?_
    refine g_callU hX (pc := 44) (C := "Quorumspire$Word") (owner := "java/lang/Enum") (x := ⟨"Quorumspire$Word", "ordinal", "()I"⟩) (y := yJ11_ordinal) (n := 0) q804 q803 q802 q91 q800 rfl ⟨by decide +kernel, by decide +kernel, by decide +kernel⟩ (mt_ordW E l (gW g) (by omega)) q799 (fun H locs hP hS => va_recvE (cx_gs hX).2.1 (i := (gW g)) (by show _ < 5; omega) hS) [] rfl rfl rfl (Nat.le_of_ble_eq_true rfl) (Nat.le_of_ble_eq_true rfl) (Nat.le_of_ble_eq_true rfl) (Nat.le_of_ble_eq_true rfl) (Nat.le_of_ble_eq_true rfl) dX13_told_44 (fun v w1 hp => ?_)
    obtain ⟨rfl, rfl⟩ := hp
    refine g_nrm (cs1 := [fz]) (st1 := [.int (nI (gW g))]) rfl rfl ?_
    refine g_iret hX (pc := 47) hR ?_ (Nat.le_of_ble_eq_true rfl) (Nat.le_of_ble_eq_true rfl) dX13_told_47
    refine ⟨?_, rfl⟩
    rw [h1_0]
    rfl
  · refine g_tableIn hX (pc := 1) (tgt := 48) (off := 47) dX13_told_1 (by rw [h1_1]; decide) (by rw [h1_1]; decide) (by rw [h1_1]; rfl) rfl ?_
    refine g_aload_n hX (pc := 48) dX13_told_48 0 rfl ?_
    refine g_getm hX (pc := 49) fcX13 (sp_in 0 rfl k1) 1 (by decide) q1058 rfl (v := .int (nI (gF g))) rfl dX13_told_49 ?_
    refine g_iret hX (pc := 52) hR ?_ (Nat.le_of_ble_eq_true rfl) (Nat.le_of_ble_eq_true rfl) dX13_told_52
    refine ⟨?_, rfl⟩
    rw [h1_1]
    rfl
  · refine g_tableIn hX (pc := 1) (tgt := 53) (off := 52) dX13_told_1 (by rw [h1_2]; decide) (by rw [h1_2]; decide) (by rw [h1_2]; rfl) rfl ?_
    refine g_aload_n hX (pc := 53) dX13_told_53 0 rfl ?_
    refine g_getm hX (pc := 54) fcX13 (sp_in 0 rfl k1) 2 (by decide) q1060 rfl (v := .int (nI (gT g))) rfl dX13_told_54 ?_
    refine g_iret hX (pc := 57) hR ?_ (Nat.le_of_ble_eq_true rfl) (Nat.le_of_ble_eq_true rfl) dX13_told_57
    refine ⟨?_, rfl⟩
    rw [h1_2]
    rfl
  · refine g_tableIn hX (pc := 1) (tgt := 58) (off := 57) dX13_told_1 (by rw [h1_3]; decide) (by rw [h1_3]; decide) (by rw [h1_3]; rfl) rfl ?_
    refine g_aload_n hX (pc := 58) dX13_told_58 0 rfl ?_
    refine g_getm hX (pc := 59) fcX13 (sp_in 0 rfl k1) 3 (by decide) q1062 rfl (v := .int (gTm g)) rfl dX13_told_59 ?_
    refine g_iret hX (pc := 62) hR ?_ (Nat.le_of_ble_eq_true rfl) (Nat.le_of_ble_eq_true rfl) dX13_told_62
    refine ⟨?_, rfl⟩
    rw [h1_3]
    rfl
  · refine g_tableIn hX (pc := 1) (tgt := 63) (off := 62) dX13_told_1 (by rw [h1_4]; decide) (by rw [h1_4]; decide) (by rw [h1_4]; rfl) rfl ?_
    refine g_aload_n hX (pc := 63) dX13_told_63 0 rfl ?_
    refine g_getm hX (pc := 64) fcX13 (sp_in 0 rfl k1) 4 (by decide) q1064 rfl (v := .int (nI (gN g))) rfl dX13_told_64 ?_
    refine g_iret hX (pc := 67) hR ?_ (Nat.le_of_ble_eq_true rfl) (Nat.le_of_ble_eq_true rfl) dX13_told_67
    refine ⟨?_, rfl⟩
    rw [h1_4]
    rfl
  · refine g_tableIn hX (pc := 1) (tgt := 68) (off := 67) dX13_told_1 (by rw [h1_5]; decide) (by rw [h1_5]; decide) (by rw [h1_5]; rfl) rfl ?_
    refine g_aload_n hX (pc := 68) dX13_told_68 0 rfl ?_
    refine g_getm hX (pc := 69) fcX13 (sp_in 0 rfl k1) 6 (by decide) q1068 rfl (v := .int (bI (gY g))) rfl dX13_told_69 ?_
    refine g_val (v := if (gY g) = false then 0 else 1) (pcJ := 80) (st1 := []) (fun hj1 => ?_) ?_
    · refine g_if_eq hX (pc := 72) (tgt := 79) dX13_told_72 rfl (fun c2_ => ?_) (fun c2_ => ?_)
      · have c2 := bI_0.mp c2_
        refine g_iconst hX (pc := 79) (v := 0) dX13_told_79 (by decide) ?_
        exact hj1 _ (by rw [if_pos c2])
      · have c2 := mt bI_0.mpr c2_
        refine g_iconst hX (pc := 75) (v := 1) dX13_told_75 (by decide) ?_
        refine g_goto hX (pc := 76) (tgt := 80) dX13_told_76 rfl ?_
        exact hj1 _ (by rw [if_neg c2])
    refine g_iret hX (pc := 80) hR ?_ (Nat.le_of_ble_eq_true rfl) (Nat.le_of_ble_eq_true rfl) dX13_told_80
    refine ⟨?_, rfl⟩
    rw [h1_5]
    show _ = some (Value.int (bI (gY g)))
    cases gY g <;> rfl
  · have h1_d : 5 < wh := by omega
    refine g_tableOut hX (pc := 1) (tgt := 81) dX13_told_1 (by rw [nI_toInt (by omega)]; omega) rfl ?_
    refine g_aload_n hX (pc := 81) dX13_told_81 0 rfl ?_
    refine g_getm hX (pc := 82) fcX13 (sp_in 0 rfl k1) 8 (by decide) q1071 rfl (v := .ref ra) rfl dX13_told_82 ?_
    refine g_alen hX (pc := 85) (sp_in 0 rfl k2) 3 rfl (v := (nI (List.length ges))) rfl dX13_told_85 ?_
    refine g_iret hX (pc := 86) hR ?_ (Nat.le_of_ble_eq_true rfl) (Nat.le_of_ble_eq_true rfl) dX13_told_86
    refine ⟨?_, rfl⟩
    obtain rfl : wh = 6 := by omega
    show _ = some (Value.int (nI (List.length (gE g))))
    rw [hlen]

set_option maxHeartbeats 4000000 in
theorem mt_Machine_lost (E : EE) (l : Launch) (m : Nat) (num : Int32) (rn : Nat) (rk : Nat) (rl : Nat) (rs : Nat) (rst : Nat) (role : Int32) (vt : Int32) (su : Int32) (dn : Int32) (lz : Int32) (la : Nat) (t : Int32) (v : Int32) (b : Nat) (bt : Int32) (sp : Nat) (fz : va_W) (ges : List (Nat × PEn)) (wl : va_W) (la2 : Nat) (t2 : Int32) (v2 : Int32) (b2 : Nat) (bt2 : Int32) (sp2 : Nat) (ges2 : List (Nat × PEn)) (wl2 : va_W) (hE : EL E fz la ges wl) (hE2 : EL E fz la2 ges2 wl2) (hb : (b + List.length ges ≤ 100000)) (hb2 : (b2 + List.length ges2 ≤ 100000)) : Mt E l yX9_lost cX9_lost 3 (some .int) 5 0 0 86 [.ref m] [[(m, ob 8 [.int num, .ref rn, .ref rk, .ref rl, .ref rs, .ref rst, .int role, .int vt, .int su, .int dn, .int lz])], [(rl, ob 9 [.ref la, .int t, .int v, .int (nI b), .int bt, .ref sp])], wl, [(rs, ob 9 [.ref la2, .int t2, .int v2, .int (nI b2), .int bt2, .ref sp2])], wl2, fz] (fun (v_ : Option Value) (cs_ : List va_W) => v_ = some (.int (nI (lostUp b (List.map Prod.snd ges) b2 (List.map Prod.snd ges2) (List.length ges)))) ∧ cs_ = [[(m, ob 8 [.int num, .ref rn, .ref rk, .ref rl, .ref rs, .ref rst, .int role, .int vt, .int su, .int dn, .int lz])], [(rl, ob 9 [.ref la, .int t, .int v, .int (nI b), .int bt, .ref sp])], wl, [(rs, ob 9 [.ref la2, .int t2, .int v2, .int (nI b2), .int bt2, .ref sp2])], wl2, fz]) := by
  refine Mt.of (by decide) (Nat.le_of_ble_eq_true rfl) (fun X hX hR hin => ?_)
  refine g_lv1 (lv1 := [(0, .ref m)]) rfl ?_
  refine g_iconst hX (pc := 0) (v := 0) dX9_lost_0 (by decide) ?_
  refine g_eqi (nI (lostUp b (List.map Prod.snd ges) b2 (List.map Prod.snd ges2) 0)) (nI_0.symm) ?_
  refine g_istore_n hX (pc := 1) (lv1 := [(1, .int (nI (lostUp b (List.map Prod.snd ges) b2 (List.map Prod.snd ges2) 0))), (0, .ref m)]) dX9_lost_1 (by decide) rfl ?_
  refine g_aload_n hX (pc := 2) dX9_lost_2 1 rfl ?_
  refine g_get hX (pc := 3) fcX9 0 rfl 3 (by decide) q931 rfl (v := .ref rl) rfl dX9_lost_3 ?_
  refine g_getN hX (pc := 6) fcX10 1 rfl 3 (by decide) q851 rfl (v := .int (nI b)) rfl dX9_lost_6 ?_
  refine g_iconst hX (pc := 9) (v := 1) dX9_lost_9 (by decide) ?_
  refine g_iadd hX (pc := 10) dX9_lost_10 ?_
  refine g_eqi (nI (b + 1 + 0)) (nI_1 b) ?_
  refine g_istore_n hX (pc := 11) (lv1 := [(2, .int (nI (b + 1 + 0))), (1, .int (nI (lostUp b (List.map Prod.snd ges) b2 (List.map Prod.snd ges2) 0))), (0, .ref m)]) dX9_lost_11 (by decide) rfl ?_
  have lp1 : ∀ (F1 : Nat) (i : Nat), List.length ges - i < F1 → (i ≤ List.length ges) → G E l X [[(m, ob 8 [.int num, .ref rn, .ref rk, .ref rl, .ref rs, .ref rst, .int role, .int vt, .int su, .int dn, .int lz])], [(rl, ob 9 [.ref la, .int t, .int v, .int (nI b), .int bt, .ref sp])], wl, [(rs, ob 9 [.ref la2, .int t2, .int v2, .int (nI b2), .int bt2, .ref sp2])], wl2, fz] 0 0 12 [(2, .int (nI (b + 1 + i))), (1, .int (nI (lostUp b (List.map Prod.snd ges) b2 (List.map Prod.snd ges2) i))), (0, .ref m)] [] := by
    intro F1
    induction F1 with
    | zero =>
      intro i hF hi
      exact absurd hF (Nat.not_lt_zero _)
    | succ F1 ih1 =>
      intro i hF hi
      refine g_iload_n hX (pc := 12) dX9_lost_12 0 rfl ?_
      refine g_aload_n hX (pc := 13) dX9_lost_13 2 rfl ?_
      refine g_get hX (pc := 14) fcX9 0 rfl 3 (by decide) q931 rfl (v := .ref rl) rfl dX9_lost_14 ?_
      refine g_callV hX (pc := 17) kX10_last (mt_Log_last E l rl la t v b bt sp fz ges wl hE) q1474 fcX10 (sp_mem (i := 1) rfl) [1, 1] rfl rfl rfl (Nat.le_of_ble_eq_true rfl) (Nat.le_of_ble_eq_true rfl) (Nat.le_of_ble_eq_true rfl) (by omega) (by omega) dX9_lost_17 (fun v w1 hp => ?_)
      obtain ⟨rfl, rfl⟩ := hp
      refine g_nrm (cs1 := [[(rl, ob 9 [.ref la, .int t, .int v, .int (nI b), .int bt, .ref sp])], wl, [(m, ob 8 [.int num, .ref rn, .ref rk, .ref rl, .ref rs, .ref rst, .int role, .int vt, .int su, .int dn, .int lz])], [(rs, ob 9 [.ref la2, .int t2, .int v2, .int (nI b2), .int bt2, .ref sp2])], wl2, fz]) (st1 := [.int (nI (b + List.length ges)), .int (nI (b + 1 + i))]) rfl rfl ?_
      refine g_icmp_gt hX (pc := 20) (tgt := 70) dX9_lost_20 rfl (fun c2 => ?_) (fun c2 => ?_)
      · have d2 : i = List.length ges := by
          have := (nI_ltI (a := b + List.length ges) (b := b + 1 + i) (by omega) (by omega)).mp c2
          omega
        refine g_iload_n hX (pc := 70) dX9_lost_70 1 rfl ?_
        refine g_pk [2, 0, 0, 0, 0, 0] rfl ?_
        refine g_cs (cs1 := [[(m, ob 8 [.int num, .ref rn, .ref rk, .ref rl, .ref rs, .ref rst, .int role, .int vt, .int su, .int dn, .int lz])], [(rl, ob 9 [.ref la, .int t, .int v, .int (nI b), .int bt, .ref sp])], wl, [(rs, ob 9 [.ref la2, .int t2, .int v2, .int (nI b2), .int bt2, .ref sp2])], wl2, fz]) rfl ?_
        refine g_iret hX (pc := 71) hR ?_ (by omega) (by omega) dX9_lost_71
        rw [d2]
        exact ⟨rfl, rfl⟩
      · have d1 : i < List.length ges := by
          have := mt (nI_ltI (a := b + List.length ges) (b := b + 1 + i) (by omega) (by omega)).mpr c2
          omega
        obtain ⟨g, hg⟩ := get_ex d1
        have hz := (en_at hE.2 hg).1
        have hgi : ges[b + 1 + i - b - 1]? = some g := by rw [show b + 1 + i - b - 1 = i by omega]; exact hg
        have ee : enAt b (List.map Prod.snd ges) (b + 1 + i) = some g.2 := by
          unfold enAt; rw [if_pos (by omega), List.getElem?_map, hgi]; rfl
        refine g_iload_n hX (pc := 23) dX9_lost_23 1 rfl ?_
        refine g_aload_n hX (pc := 24) dX9_lost_24 2 rfl ?_
        refine g_get hX (pc := 25) fcX9 2 rfl 4 (by decide) q935 rfl (v := .ref rs) rfl dX9_lost_25 ?_
        refine g_iload_n hX (pc := 28) dX9_lost_28 0 rfl ?_
        refine g_callV hX (pc := 29) kX10_has (mt_Log_has E l rs la2 t2 v2 b2 bt2 sp2 fz ges2 wl2 (b + 1 + i) hE2 (by omega) (by omega)) q1475 fcX10 (sp_mem (i := 3) rfl) [3, 3] rfl rfl rfl (Nat.le_of_ble_eq_true rfl) (Nat.le_of_ble_eq_true rfl) (Nat.le_of_ble_eq_true rfl) (by omega) (by omega) dX9_lost_29 (fun v w1 hp => ?_)
        obtain ⟨rfl, rfl⟩ := hp
        refine g_nrm (cs1 := [[(rs, ob 9 [.ref la2, .int t2, .int v2, .int (nI b2), .int bt2, .ref sp2])], wl2, [(rl, ob 9 [.ref la, .int t, .int v, .int (nI b), .int bt, .ref sp])], wl, [(m, ob 8 [.int num, .ref rn, .ref rk, .ref rl, .ref rs, .ref rst, .int role, .int vt, .int su, .int dn, .int lz])], fz]) (st1 := [.int (if b2 < (b + 1 + i) ∧ (b + 1 + i) ≤ b2 + List.length ges2 then 1 else 0), .int (nI (lostUp b (List.map Prod.snd ges) b2 (List.map Prod.snd ges2) i))]) rfl rfl ?_
        refine g_if_eq hX (pc := 32) (tgt := 61) dX9_lost_32 rfl (fun c3_ => ?_) (fun c3_ => ?_)
        · have c3 := z10.mp c3_
          have ee2 : enAt b2 (List.map Prod.snd ges2) (b + 1 + i) = none := by
            unfold enAt
            by_cases h : b2 < b + 1 + i
            · rw [if_pos h, List.getElem?_eq_none (by rw [List.length_map]; omega)]
            · rw [if_neg h]
          refine g_iconst hX (pc := 61) (v := 1) dX9_lost_61 (by decide) ?_
          refine g_iadd hX (pc := 62) dX9_lost_62 ?_
          refine g_eqi (nI (lostUp b (List.map Prod.snd ges) b2 (List.map Prod.snd ges2) (i + 1))) (by rw [lostUp_s, ee, ee2, if_neg (by simp), nI_1]) ?_
          refine g_istore_n hX (pc := 63) (lv1 := [(1, .int (nI (lostUp b (List.map Prod.snd ges) b2 (List.map Prod.snd ges2) (i + 1)))), (2, .int (nI (b + 1 + i))), (0, .ref m)]) dX9_lost_63 (by decide) rfl ?_
          refine g_iinc hX (pc := 64) (v := nI ((b + 1 + i) + 1)) (lv1 := [(2, .int (nI ((b + 1 + i) + 1))), (1, .int (nI (lostUp b (List.map Prod.snd ges) b2 (List.map Prod.snd ges2) (i + 1)))), (0, .ref m)]) dX9_lost_64 1 rfl (nI_1 _) (by decide) rfl ?_
          refine g_goto hX (pc := 67) (tgt := 12) dX9_lost_67 rfl ?_
          refine g_pk [4, 2, 2, 0, 0, 0] rfl ?_
          refine g_cs (cs1 := [[(m, ob 8 [.int num, .ref rn, .ref rk, .ref rl, .ref rs, .ref rst, .int role, .int vt, .int su, .int dn, .int lz])], [(rl, ob 9 [.ref la, .int t, .int v, .int (nI b), .int bt, .ref sp])], wl, [(rs, ob 9 [.ref la2, .int t2, .int v2, .int (nI b2), .int bt2, .ref sp2])], wl2, fz]) rfl ?_
          refine g_widen (kc1 := 0) (ks1 := 0) (by omega) (by omega) ?_
          exact ih1 (i + 1) (by omega) (by omega)
        · have c3 := z10n.mp c3_
          obtain ⟨g2, hg2⟩ := get_ex (l := ges2) (i := b + 1 + i - b2 - 1) (by omega)
          have hz2 := (en_at hE2.2 hg2).1
          have ee2 : enAt b2 (List.map Prod.snd ges2) (b + 1 + i) = some g2.2 := by
            unfold enAt; rw [if_pos (by omega), List.getElem?_map, hg2]; rfl
          refine g_aload_n hX (pc := 35) dX9_lost_35 2 rfl ?_
          refine g_get hX (pc := 36) fcX9 4 rfl 4 (by decide) q935 rfl (v := .ref rs) rfl dX9_lost_36 ?_
          refine g_iload_n hX (pc := 39) dX9_lost_39 0 rfl ?_
          refine g_callV hX (pc := 40) kX10_at (mt_Log_at E l rs la2 t2 v2 b2 bt2 sp2 fz ges2 wl2 (b + 1 + i) g2 hE2 (hg2) (by omega) (by omega)) q1476 fcX10 (sp_mem (i := 0) rfl) [0, 0, 3] rfl rfl rfl (Nat.le_of_ble_eq_true rfl) (Nat.le_of_ble_eq_true rfl) (Nat.le_of_ble_eq_true rfl) (by omega) (by omega) dX9_lost_40 (fun v w1 hp => ?_)
          obtain ⟨rfl, rfl⟩ := hp
          refine g_nrm (cs1 := [[(rs, ob 9 [.ref la2, .int t2, .int v2, .int (nI b2), .int bt2, .ref sp2])], wl2, fz, [(rl, ob 9 [.ref la, .int t, .int v, .int (nI b), .int bt, .ref sp])], wl, [(m, ob 8 [.int num, .ref rn, .ref rk, .ref rl, .ref rs, .ref rst, .int role, .int vt, .int su, .int dn, .int lz])]]) (st1 := [.ref g2.1, .int (nI (lostUp b (List.map Prod.snd ges) b2 (List.map Prod.snd ges2) i))]) rfl rfl ?_
          refine g_aload_n hX (pc := 43) dX9_lost_43 2 rfl ?_
          refine g_get hX (pc := 44) fcX9 5 rfl 3 (by decide) q931 rfl (v := .ref rl) rfl dX9_lost_44 ?_
          refine g_iload_n hX (pc := 47) dX9_lost_47 0 rfl ?_
          refine g_callV hX (pc := 48) kX10_at (mt_Log_at E l rl la t v b bt sp fz ges wl (b + 1 + i) g hE (hgi) (by omega) (by omega)) q1476 fcX10 (sp_mem (i := 3) rfl) [3, 3, 2] rfl rfl rfl (Nat.le_of_ble_eq_true rfl) (Nat.le_of_ble_eq_true rfl) (Nat.le_of_ble_eq_true rfl) (by omega) (by omega) dX9_lost_48 (fun v w1 hp => ?_)
          obtain ⟨rfl, rfl⟩ := hp
          refine g_nrm (cs1 := [[(rl, ob 9 [.ref la, .int t, .int v, .int (nI b), .int bt, .ref sp])], wl, fz, [(rs, ob 9 [.ref la2, .int t2, .int v2, .int (nI b2), .int bt2, .ref sp2])], wl2, [(m, ob 8 [.int num, .ref rn, .ref rk, .ref rl, .ref rs, .ref rst, .int role, .int vt, .int su, .int dn, .int lz])]]) (st1 := [.ref g.1, .ref g2.1, .int (nI (lostUp b (List.map Prod.snd ges) b2 (List.map Prod.snd ges2) i))]) rfl rfl ?_
          refine g_callV hX (pc := 51) kX14_isSame (mt_Entry_isSame E l g2.1 g2.2.1 g2.2.2 g.1 g.2.1 g.2.2 fz (hz2) (hz)) q1477 fcX14 (sp_in 2 rfl hz2) [2] rfl rfl rfl (Nat.le_of_ble_eq_true rfl) (Nat.le_of_ble_eq_true rfl) (Nat.le_of_ble_eq_true rfl) (by omega) (by omega) dX9_lost_51 (fun v w1 hp => ?_)
          obtain ⟨rfl, rfl⟩ := hp
          refine g_nrm (cs1 := [fz, [(rl, ob 9 [.ref la, .int t, .int v, .int (nI b), .int bt, .ref sp])], wl, [(rs, ob 9 [.ref la2, .int t2, .int v2, .int (nI b2), .int bt2, .ref sp2])], wl2, [(m, ob 8 [.int num, .ref rn, .ref rk, .ref rl, .ref rs, .ref rst, .int role, .int vt, .int su, .int dn, .int lz])]]) (st1 := [.int (if g2.2.1 = g.2.1 ∧ g2.2.2 = g.2.2 then 1 else 0), .int (nI (lostUp b (List.map Prod.snd ges) b2 (List.map Prod.snd ges2) i))]) rfl rfl ?_
          refine g_val (v := if g2.2.1 = g.2.1 ∧ g2.2.2 = g.2.2 then 0 else 1) (pcJ := 62) (st1 := [.int (nI (lostUp b (List.map Prod.snd ges) b2 (List.map Prod.snd ges2) i))]) (fun hj4 => ?_) ?_
          · refine g_if_eq hX (pc := 54) (tgt := 61) dX9_lost_54 rfl (fun c5_ => ?_) (fun c5_ => ?_)
            · have c5 := z10.mp c5_
              refine g_iconst hX (pc := 61) (v := 1) dX9_lost_61 (by decide) ?_
              exact hj4 _ (by rw [if_neg c5])
            · have c5 := z10n.mp c5_
              refine g_iconst hX (pc := 57) (v := 0) dX9_lost_57 (by decide) ?_
              refine g_goto hX (pc := 58) (tgt := 62) dX9_lost_58 rfl ?_
              exact hj4 _ (by rw [if_pos c5])
          refine g_iadd hX (pc := 62) dX9_lost_62 ?_
          refine g_eqi (nI (lostUp b (List.map Prod.snd ges) b2 (List.map Prod.snd ges2) (i + 1))) (by rw [lostUp_s, ee, ee2]; simp only [Option.some.injEq]; by_cases h1 : g2.2.1 = g.2.1 <;> by_cases h2 : g2.2.2 = g.2.2 <;> simp [Prod.ext_iff, h1, h2, nI_1]) ?_
          refine g_istore_n hX (pc := 63) (lv1 := [(1, .int (nI (lostUp b (List.map Prod.snd ges) b2 (List.map Prod.snd ges2) (i + 1)))), (2, .int (nI (b + 1 + i))), (0, .ref m)]) dX9_lost_63 (by decide) rfl ?_
          refine g_iinc hX (pc := 64) (v := nI ((b + 1 + i) + 1)) (lv1 := [(2, .int (nI ((b + 1 + i) + 1))), (1, .int (nI (lostUp b (List.map Prod.snd ges) b2 (List.map Prod.snd ges2) (i + 1)))), (0, .ref m)]) dX9_lost_64 1 rfl (nI_1 _) (by decide) rfl ?_
          refine g_goto hX (pc := 67) (tgt := 12) dX9_lost_67 rfl ?_
          refine g_pk [5, 1, 1, 1, 1, 0] rfl ?_
          refine g_cs (cs1 := [[(m, ob 8 [.int num, .ref rn, .ref rk, .ref rl, .ref rs, .ref rst, .int role, .int vt, .int su, .int dn, .int lz])], [(rl, ob 9 [.ref la, .int t, .int v, .int (nI b), .int bt, .ref sp])], wl, [(rs, ob 9 [.ref la2, .int t2, .int v2, .int (nI b2), .int bt2, .ref sp2])], wl2, fz]) rfl ?_
          refine g_widen (kc1 := 0) (ks1 := 0) (by omega) (by omega) ?_
          exact ih1 (i + 1) (by omega) (by omega)
  refine g_widen (kc1 := 0) (ks1 := 0) (by omega) (by omega) ?_
  exact lp1 ((List.length ges - 0) + 1) 0 (Nat.lt_succ_self _) (Nat.zero_le _)
