set_option maxHeartbeats 4000000 in
theorem mt_Entry_init (E : EE) (l : Launch) (a : Nat) (t : Int32) (r : Int32) : Mt E l yX14_init cX14_init 3 none 1 0 0 12 [.ref a, .int t, .int r] [[(a, ob 12 [.int 0, .int 0])]] (fun (v_ : Option Value) (cs_ : List va_W) => v_ = none ∧ cs_ = [[(a, ob 12 [.int t, .int r])]]) := by
  refine Mt.of (by decide) (Nat.le_of_ble_eq_true rfl) (fun X hX hR hin => ?_)
  refine g_lv1 (lv1 := [(0, .ref a), (1, .int t), (2, .int r)]) rfl ?_
  refine g_aload_n hX (pc := 0) dX14_init_0 0 rfl ?_
  refine g_objInit hX (pc := 1) q1115 q_oi1 q_oi2 (Nat.le_of_ble_eq_true rfl) (Nat.le_of_ble_eq_true rfl) dX14_init_1 ?_
  refine g_aload_n hX (pc := 4) dX14_init_4 0 rfl ?_
  refine g_iload_n hX (pc := 5) dX14_init_5 1 rfl ?_
  refine g_putF hX (pc := 6) fcX14 0 (fs1 := [.int t, .int 0]) (cs1 := [[(a, ob 12 [.int t, .int 0])]]) rfl 0 (by decide) q1116 rfl rfl hin rfl rfl rfl (Nat.le_of_ble_eq_true rfl) rfl rfl dX14_init_6 ?_
  refine g_aload_n hX (pc := 9) dX14_init_9 0 rfl ?_
  refine g_iload_n hX (pc := 10) dX14_init_10 2 rfl ?_
  refine g_putF hX (pc := 11) fcX14 0 (fs1 := [.int t, .int r]) (cs1 := [[(a, ob 12 [.int t, .int r])]]) rfl 1 (by decide) q1120 rfl rfl hin rfl rfl rfl (Nat.le_of_ble_eq_true rfl) rfl rfl dX14_init_11 ?_
  refine g_vret hX (pc := 14) hR ?_ (Nat.le_of_ble_eq_true rfl) (Nat.le_of_ble_eq_true rfl) dX14_init_14
  exact ⟨rfl, rfl⟩

set_option maxHeartbeats 4000000 in
theorem mt_Request_init (E : EE) (l : Launch) (a : Nat) (cl : Int32) (k : Nat) (ky : Int32) (ra : Int32) (rb : Int32) : Mt E l yX12_init cX12_init 6 none 1 0 0 12 [.ref a, .int cl, .ref k, .int ky, .int ra, .int rb] [[(a, ob 10 [.int 0, .null, .int 0, .int 0, .int 0, .int 0, .int 0, .int 0, .int 0])]] (fun (v_ : Option Value) (cs_ : List va_W) => v_ = none ∧ cs_ = [[(a, ob 10 [.int cl, .ref k, .int ky, .int ra, .int rb, .int (-1), .int (-1), .int (-1), .int 0])]]) := by
  refine Mt.of (by decide) (Nat.le_of_ble_eq_true rfl) (fun X hX hR hin => ?_)
  refine g_lv1 (lv1 := [(0, .ref a), (1, .int cl), (2, .ref k), (3, .int ky), (4, .int ra), (5, .int rb)]) rfl ?_
  refine g_aload_n hX (pc := 0) dX12_init_0 0 rfl ?_
  refine g_objInit hX (pc := 1) q987 q_oi1 q_oi2 (Nat.le_of_ble_eq_true rfl) (Nat.le_of_ble_eq_true rfl) dX12_init_1 ?_
  refine g_aload_n hX (pc := 4) dX12_init_4 0 rfl ?_
  refine g_iconst hX (pc := 5) (v := (-1)) dX12_init_5 (by decide) ?_
  refine g_put hX (pc := 6) fcX12 0 (fs1 := [.int 0, .null, .int 0, .int 0, .int 0, .int (-1), .int 0, .int 0, .int 0]) (cs1 := [[(a, ob 10 [.int 0, .null, .int 0, .int 0, .int 0, .int (-1), .int 0, .int 0, .int 0])]]) rfl 5 (by decide) q1004 rfl rfl rfl rfl (Nat.le_of_ble_eq_true rfl) rfl rfl dX12_init_6 ?_
  refine g_aload_n hX (pc := 9) dX12_init_9 0 rfl ?_
  refine g_iconst hX (pc := 10) (v := (-1)) dX12_init_10 (by decide) ?_
  refine g_put hX (pc := 11) fcX12 0 (fs1 := [.int 0, .null, .int 0, .int 0, .int 0, .int (-1), .int (-1), .int 0, .int 0]) (cs1 := [[(a, ob 10 [.int 0, .null, .int 0, .int 0, .int 0, .int (-1), .int (-1), .int 0, .int 0])]]) rfl 6 (by decide) q1008 rfl rfl rfl rfl (Nat.le_of_ble_eq_true rfl) rfl rfl dX12_init_11 ?_
  refine g_aload_n hX (pc := 14) dX12_init_14 0 rfl ?_
  refine g_iconst hX (pc := 15) (v := (-1)) dX12_init_15 (by decide) ?_
  refine g_put hX (pc := 16) fcX12 0 (fs1 := [.int 0, .null, .int 0, .int 0, .int 0, .int (-1), .int (-1), .int (-1), .int 0]) (cs1 := [[(a, ob 10 [.int 0, .null, .int 0, .int 0, .int 0, .int (-1), .int (-1), .int (-1), .int 0])]]) rfl 7 (by decide) q1011 rfl rfl rfl rfl (Nat.le_of_ble_eq_true rfl) rfl rfl dX12_init_16 ?_
  refine g_aload_n hX (pc := 19) dX12_init_19 0 rfl ?_
  refine g_iload_n hX (pc := 20) dX12_init_20 1 rfl ?_
  refine g_putF hX (pc := 21) fcX12 0 (fs1 := [.int cl, .null, .int 0, .int 0, .int 0, .int (-1), .int (-1), .int (-1), .int 0]) (cs1 := [[(a, ob 10 [.int cl, .null, .int 0, .int 0, .int 0, .int (-1), .int (-1), .int (-1), .int 0])]]) rfl 0 (by decide) q988 rfl rfl hin rfl rfl rfl (Nat.le_of_ble_eq_true rfl) rfl rfl dX12_init_21 ?_
  refine g_aload_n hX (pc := 24) dX12_init_24 0 rfl ?_
  refine g_aload_n hX (pc := 25) dX12_init_25 2 rfl ?_
  refine g_putF hX (pc := 26) fcX12 0 (fs1 := [.int cl, .ref k, .int 0, .int 0, .int 0, .int (-1), .int (-1), .int (-1), .int 0]) (cs1 := [[(a, ob 10 [.int cl, .ref k, .int 0, .int 0, .int 0, .int (-1), .int (-1), .int (-1), .int 0])]]) rfl 1 (by decide) q992 rfl rfl hin rfl rfl rfl (Nat.le_of_ble_eq_true rfl) rfl rfl dX12_init_26 ?_
  refine g_aload_n hX (pc := 29) dX12_init_29 0 rfl ?_
  refine g_iload_n hX (pc := 30) dX12_init_30 3 rfl ?_
  refine g_putF hX (pc := 31) fcX12 0 (fs1 := [.int cl, .ref k, .int ky, .int 0, .int 0, .int (-1), .int (-1), .int (-1), .int 0]) (cs1 := [[(a, ob 10 [.int cl, .ref k, .int ky, .int 0, .int 0, .int (-1), .int (-1), .int (-1), .int 0])]]) rfl 2 (by decide) q996 rfl rfl hin rfl rfl rfl (Nat.le_of_ble_eq_true rfl) rfl rfl dX12_init_31 ?_
  refine g_aload_n hX (pc := 34) dX12_init_34 0 rfl ?_
  refine g_iload hX (pc := 35) dX12_init_35 4 rfl ?_
  refine g_putF hX (pc := 37) fcX12 0 (fs1 := [.int cl, .ref k, .int ky, .int ra, .int 0, .int (-1), .int (-1), .int (-1), .int 0]) (cs1 := [[(a, ob 10 [.int cl, .ref k, .int ky, .int ra, .int 0, .int (-1), .int (-1), .int (-1), .int 0])]]) rfl 3 (by decide) q1001 rfl rfl hin rfl rfl rfl (Nat.le_of_ble_eq_true rfl) rfl rfl dX12_init_37 ?_
  refine g_aload_n hX (pc := 40) dX12_init_40 0 rfl ?_
  refine g_iload hX (pc := 41) dX12_init_41 5 rfl ?_
  refine g_putF hX (pc := 43) fcX12 0 (fs1 := [.int cl, .ref k, .int ky, .int ra, .int rb, .int (-1), .int (-1), .int (-1), .int 0]) (cs1 := [[(a, ob 10 [.int cl, .ref k, .int ky, .int ra, .int rb, .int (-1), .int (-1), .int (-1), .int 0])]]) rfl 4 (by decide) q1003 rfl rfl hin rfl rfl rfl (Nat.le_of_ble_eq_true rfl) rfl rfl dX12_init_43 ?_
  refine g_vret hX (pc := 46) hR ?_ (Nat.le_of_ble_eq_true rfl) (Nat.le_of_ble_eq_true rfl) dX12_init_46
  exact ⟨rfl, rfl⟩

set_option maxHeartbeats 4000000 in
theorem mt_Request_copy (E : EE) (l : Launch) (a : Nat) (cl : Int32) (kd : Nat) (ky : Int32) (ra : Int32) (rb : Int32) (rs : Int32) (st : Int32) (an : Int32) (sn : Int32) : Mt E l yX12_copy cX12_copy 2 (some (.object "Quorumspire$Request")) 2 1 9 37 [.ref a] [[(a, ob 10 [.int cl, .ref (aK E kd), .int ky, .int ra, .int rb, .int rs, .int st, .int an, .int sn])]] (fun (v_ : Option Value) (cs_ : List va_W) => ∃ (q : Nat), v_ = some (.ref q) ∧ cs_ = [[(q, ob 10 [.int cl, .ref (aK E kd), .int ky, .int ra, .int rb, .int rs, .int st, .int an, .int sn])], [(a, ob 10 [.int cl, .ref (aK E kd), .int ky, .int ra, .int rb, .int rs, .int st, .int an, .int sn])]]) := by
  refine Mt.of (by decide) (Nat.le_of_ble_eq_true rfl) (fun X hX hR hin => ?_)
  refine g_lv1 (lv1 := [(0, .ref a)]) rfl ?_
  refine g_new hX (pc := 0) fcX12 q982 q983 q93 (fs := [.int 0, .null, .int 0, .int 0, .int 0, .int 0, .int 0, .int 0, .int 0]) (fun j hj => by match j, hj with | 0, _ => rfl | 1, _ => rfl | 2, _ => rfl | 3, _ => rfl | 4, _ => rfl | 5, _ => rfl | 6, _ => rfl | 7, _ => rfl | 8, _ => rfl | j + 9, h => exact absurd h (by omega)) (Nat.le_of_ble_eq_true rfl) (Nat.le_of_ble_eq_true rfl) dX12_copy_0 (fun q1 => ?_)
  refine g_dup hX (pc := 3) dX12_copy_3 rfl ?_
  refine g_aload_n hX (pc := 4) dX12_copy_4 0 rfl ?_
  refine g_get hX (pc := 5) fcX12 1 rfl 0 (by decide) q988 rfl (v := .int cl) rfl dX12_copy_5 ?_
  refine g_aload_n hX (pc := 8) dX12_copy_8 0 rfl ?_
  refine g_get hX (pc := 9) fcX12 1 rfl 1 (by decide) q992 rfl (v := .ref (aK E kd)) rfl dX12_copy_9 ?_
  refine g_aload_n hX (pc := 12) dX12_copy_12 0 rfl ?_
  refine g_get hX (pc := 13) fcX12 1 rfl 2 (by decide) q996 rfl (v := .int ky) rfl dX12_copy_13 ?_
  refine g_aload_n hX (pc := 16) dX12_copy_16 0 rfl ?_
  refine g_get hX (pc := 17) fcX12 1 rfl 3 (by decide) q1001 rfl (v := .int ra) rfl dX12_copy_17 ?_
  refine g_aload_n hX (pc := 20) dX12_copy_20 0 rfl ?_
  refine g_get hX (pc := 21) fcX12 1 rfl 4 (by decide) q1003 rfl (v := .int rb) rfl dX12_copy_21 ?_
  refine g_callI hX (pc := 24) kX12_init (mt_Request_init E l q1 cl (aK E kd) ky ra rb) q984 [0] rfl rfl rfl (Nat.le_of_ble_eq_true rfl) (Nat.le_of_ble_eq_true rfl) (Nat.le_of_ble_eq_true rfl) (Nat.le_of_ble_eq_true rfl) (Nat.le_of_ble_eq_true rfl) dX12_copy_24 (fun v w1 hp => ?_)
  obtain ⟨rfl, rfl⟩ := hp
  refine g_nrm (cs1 := [[(q1, ob 10 [.int cl, .ref (aK E kd), .int ky, .int ra, .int rb, .int (-1), .int (-1), .int (-1), .int 0])], [(a, ob 10 [.int cl, .ref (aK E kd), .int ky, .int ra, .int rb, .int rs, .int st, .int an, .int sn])]]) (st1 := [.ref q1]) rfl rfl ?_
  refine g_astore_n hX (pc := 27) (lv1 := [(1, .ref q1), (0, .ref a)]) dX12_copy_27 (by decide) rfl ?_
  refine g_aload_n hX (pc := 28) dX12_copy_28 0 rfl ?_
  refine g_aload_n hX (pc := 29) dX12_copy_29 1 rfl ?_
  refine g_get hX (pc := 30) fcX12 1 rfl 5 (by decide) q1004 rfl (v := .int rs) rfl dX12_copy_30 ?_
  refine g_put hX (pc := 33) fcX12 0 (fs1 := [.int cl, .ref (aK E kd), .int ky, .int ra, .int rb, .int rs, .int (-1), .int (-1), .int 0]) (cs1 := [[(q1, ob 10 [.int cl, .ref (aK E kd), .int ky, .int ra, .int rb, .int rs, .int (-1), .int (-1), .int 0])], [(a, ob 10 [.int cl, .ref (aK E kd), .int ky, .int ra, .int rb, .int rs, .int st, .int an, .int sn])]]) rfl 5 (by decide) q1004 rfl rfl rfl rfl (Nat.le_of_ble_eq_true rfl) rfl rfl dX12_copy_33 ?_
  refine g_aload_n hX (pc := 36) dX12_copy_36 0 rfl ?_
  refine g_aload_n hX (pc := 37) dX12_copy_37 1 rfl ?_
  refine g_get hX (pc := 38) fcX12 1 rfl 6 (by decide) q1008 rfl (v := .int st) rfl dX12_copy_38 ?_
  refine g_put hX (pc := 41) fcX12 0 (fs1 := [.int cl, .ref (aK E kd), .int ky, .int ra, .int rb, .int rs, .int st, .int (-1), .int 0]) (cs1 := [[(q1, ob 10 [.int cl, .ref (aK E kd), .int ky, .int ra, .int rb, .int rs, .int st, .int (-1), .int 0])], [(a, ob 10 [.int cl, .ref (aK E kd), .int ky, .int ra, .int rb, .int rs, .int st, .int an, .int sn])]]) rfl 6 (by decide) q1008 rfl rfl rfl rfl (Nat.le_of_ble_eq_true rfl) rfl rfl dX12_copy_41 ?_
  refine g_aload_n hX (pc := 44) dX12_copy_44 0 rfl ?_
  refine g_aload_n hX (pc := 45) dX12_copy_45 1 rfl ?_
  refine g_get hX (pc := 46) fcX12 1 rfl 7 (by decide) q1011 rfl (v := .int an) rfl dX12_copy_46 ?_
  refine g_put hX (pc := 49) fcX12 0 (fs1 := [.int cl, .ref (aK E kd), .int ky, .int ra, .int rb, .int rs, .int st, .int an, .int 0]) (cs1 := [[(q1, ob 10 [.int cl, .ref (aK E kd), .int ky, .int ra, .int rb, .int rs, .int st, .int an, .int 0])], [(a, ob 10 [.int cl, .ref (aK E kd), .int ky, .int ra, .int rb, .int rs, .int st, .int an, .int sn])]]) rfl 7 (by decide) q1011 rfl rfl rfl rfl (Nat.le_of_ble_eq_true rfl) rfl rfl dX12_copy_49 ?_
  refine g_aload_n hX (pc := 52) dX12_copy_52 0 rfl ?_
  refine g_aload_n hX (pc := 53) dX12_copy_53 1 rfl ?_
  refine g_get hX (pc := 54) fcX12 1 rfl 8 (by decide) q1014 rfl (v := .int sn) rfl dX12_copy_54 ?_
  refine g_put hX (pc := 57) fcX12 0 (fs1 := [.int cl, .ref (aK E kd), .int ky, .int ra, .int rb, .int rs, .int st, .int an, .int sn]) (cs1 := [[(q1, ob 10 [.int cl, .ref (aK E kd), .int ky, .int ra, .int rb, .int rs, .int st, .int an, .int sn])], [(a, ob 10 [.int cl, .ref (aK E kd), .int ky, .int ra, .int rb, .int rs, .int st, .int an, .int sn])]]) rfl 8 (by decide) q1014 rfl rfl rfl rfl (Nat.le_of_ble_eq_true rfl) rfl rfl dX12_copy_57 ?_
  refine g_aload_n hX (pc := 60) dX12_copy_60 0 rfl ?_
  refine g_aret hX (pc := 61) hR (by first | exact Or.inl ⟨_, rfl⟩ | exact Or.inr ⟨_, rfl⟩) ?_ (Nat.le_of_ble_eq_true rfl) (Nat.le_of_ble_eq_true rfl) dX12_copy_61
  exact ⟨_, rfl, rfl⟩

set_option maxHeartbeats 4000000 in
theorem mt_Request_isAnswered (E : EE) (l : Launch) (a : Nat) (cl : Int32) (kd : Nat) (ky : Int32) (ra : Int32) (rb : Int32) (rs : Int32) (st : Int32) (an : Int32) (sn : Int32) : Mt E l yX12_isAnswered cX12_isAnswered 1 (some .boolean) 1 0 0 1 [.ref a] [[(a, ob 10 [.int cl, .ref (aK E kd), .int ky, .int ra, .int rb, .int rs, .int st, .int an, .int sn])]] (fun (v_ : Option Value) (cs_ : List va_W) => v_ = some (.int (if an = (-1) then 0 else 1)) ∧ cs_ = [[(a, ob 10 [.int cl, .ref (aK E kd), .int ky, .int ra, .int rb, .int rs, .int st, .int an, .int sn])]]) := by
  refine Mt.of (by decide) (Nat.le_of_ble_eq_true rfl) (fun X hX hR hin => ?_)
  refine g_lv1 (lv1 := [(0, .ref a)]) rfl ?_
  refine g_aload_n hX (pc := 0) dX12_isAnswered_0 0 rfl ?_
  refine g_get hX (pc := 1) fcX12 0 rfl 7 (by decide) q1011 rfl (v := .int an) rfl dX12_isAnswered_1 ?_
  refine g_iconst hX (pc := 4) (v := (-1)) dX12_isAnswered_4 (by decide) ?_
  refine g_val (v := if an = (-1) then 0 else 1) (pcJ := 13) (st1 := []) (fun hj1 => ?_) ?_
  · refine g_icmp_eq hX (pc := 5) (tgt := 12) dX12_isAnswered_5 rfl (fun c2 => ?_) (fun c2 => ?_)
    · refine g_iconst hX (pc := 12) (v := 0) dX12_isAnswered_12 (by decide) ?_
      exact hj1 _ (by rw [if_pos c2])
    · refine g_iconst hX (pc := 8) (v := 1) dX12_isAnswered_8 (by decide) ?_
      refine g_goto hX (pc := 9) (tgt := 13) dX12_isAnswered_9 rfl ?_
      exact hj1 _ (by rw [if_neg c2])
  refine g_zret hX (pc := 13) hR (nz01 _) ?_ (Nat.le_of_ble_eq_true rfl) (Nat.le_of_ble_eq_true rfl) dX12_isAnswered_13
  exact ⟨rfl, rfl⟩

set_option maxHeartbeats 4000000 in
theorem mt_Request_isSent (E : EE) (l : Launch) (a : Nat) (cl : Int32) (kd : Nat) (ky : Int32) (ra : Int32) (rb : Int32) (rs : Int32) (st : Int32) (an : Int32) (sn : Int32) : Mt E l yX12_isSent cX12_isSent 1 (some .boolean) 1 0 0 1 [.ref a] [[(a, ob 10 [.int cl, .ref (aK E kd), .int ky, .int ra, .int rb, .int rs, .int st, .int an, .int sn])]] (fun (v_ : Option Value) (cs_ : List va_W) => v_ = some (.int (if st = (-1) then 0 else 1)) ∧ cs_ = [[(a, ob 10 [.int cl, .ref (aK E kd), .int ky, .int ra, .int rb, .int rs, .int st, .int an, .int sn])]]) := by
  refine Mt.of (by decide) (Nat.le_of_ble_eq_true rfl) (fun X hX hR hin => ?_)
  refine g_lv1 (lv1 := [(0, .ref a)]) rfl ?_
  refine g_aload_n hX (pc := 0) dX12_isSent_0 0 rfl ?_
  refine g_get hX (pc := 1) fcX12 0 rfl 6 (by decide) q1008 rfl (v := .int st) rfl dX12_isSent_1 ?_
  refine g_iconst hX (pc := 4) (v := (-1)) dX12_isSent_4 (by decide) ?_
  refine g_val (v := if st = (-1) then 0 else 1) (pcJ := 13) (st1 := []) (fun hj1 => ?_) ?_
  · refine g_icmp_eq hX (pc := 5) (tgt := 12) dX12_isSent_5 rfl (fun c2 => ?_) (fun c2 => ?_)
    · refine g_iconst hX (pc := 12) (v := 0) dX12_isSent_12 (by decide) ?_
      exact hj1 _ (by rw [if_pos c2])
    · refine g_iconst hX (pc := 8) (v := 1) dX12_isSent_8 (by decide) ?_
      refine g_goto hX (pc := 9) (tgt := 13) dX12_isSent_9 rfl ?_
      exact hj1 _ (by rw [if_neg c2])
  refine g_zret hX (pc := 13) hR (nz01 _) ?_ (Nat.le_of_ble_eq_true rfl) (Nat.le_of_ble_eq_true rfl) dX12_isSent_13
  exact ⟨rfl, rfl⟩

set_option maxHeartbeats 4000000 in
theorem mt_Request_isOfValue (E : EE) (l : Launch) (a : Nat) (cl : Int32) (kd : Nat) (ky : Int32) (ra : Int32) (rb : Int32) (rs : Int32) (st : Int32) (an : Int32) (sn : Int32) (hkd : (kd < 6)) : Mt E l yX12_isOfValue cX12_isOfValue 1 (some .boolean) 1 0 0 1 [.ref a] [[(a, ob 10 [.int cl, .ref (aK E kd), .int ky, .int ra, .int rb, .int rs, .int st, .int an, .int sn])]] (fun (v_ : Option Value) (cs_ : List va_W) => v_ = some (.int (if kd < 3 then 1 else 0)) ∧ cs_ = [[(a, ob 10 [.int cl, .ref (aK E kd), .int ky, .int ra, .int rb, .int rs, .int st, .int an, .int sn])]]) := by
  refine Mt.of (by decide) (Nat.le_of_ble_eq_true rfl) (fun X hX hR hin => ?_)
  refine g_lv1 (lv1 := [(0, .ref a)]) rfl ?_
  refine g_aload_n hX (pc := 0) dX12_isOfValue_0 0 rfl ?_
  refine g_get hX (pc := 1) fcX12 0 rfl 1 (by decide) q992 rfl (v := .ref (aK E kd)) rfl dX12_isOfValue_1 ?_
  refine g_gets hX (pc := 4) (v := .ref (aK E 0)) ((cx_gs hX).1.1 0 (by decide)).1 q276 rfl dX12_isOfValue_4 ?_
  refine g_val (v := if (aK E kd) = (aK E 0) then 1 else (if (aK E kd) = (aK E 1) then 1 else (if (aK E kd) = (aK E 2) then 1 else 0))) (pcJ := 35) (st1 := []) (fun hj1 => ?_) ?_
  · refine g_acmp_eqr hX (pc := 7) (tgt := 30) dX12_isOfValue_7 rfl (fun c2 => ?_) (fun c2 => ?_)
    · refine g_iconst hX (pc := 30) (v := 1) dX12_isOfValue_30 (by decide) ?_
      refine g_goto hX (pc := 31) (tgt := 35) dX12_isOfValue_31 rfl ?_
      exact hj1 _ (by rw [if_pos c2])
    · refine g_aload_n hX (pc := 10) dX12_isOfValue_10 0 rfl ?_
      refine g_get hX (pc := 11) fcX12 0 rfl 1 (by decide) q992 rfl (v := .ref (aK E kd)) rfl dX12_isOfValue_11 ?_
      refine g_gets hX (pc := 14) (v := .ref (aK E 1)) ((cx_gs hX).1.1 1 (by decide)).1 q278 rfl dX12_isOfValue_14 ?_
      refine g_acmp_eqr hX (pc := 17) (tgt := 30) dX12_isOfValue_17 rfl (fun c3 => ?_) (fun c3 => ?_)
      · refine g_iconst hX (pc := 30) (v := 1) dX12_isOfValue_30 (by decide) ?_
        refine g_goto hX (pc := 31) (tgt := 35) dX12_isOfValue_31 rfl ?_
        exact hj1 _ (by rw [if_neg c2, if_pos c3])
      · refine g_aload_n hX (pc := 20) dX12_isOfValue_20 0 rfl ?_
        refine g_get hX (pc := 21) fcX12 0 rfl 1 (by decide) q992 rfl (v := .ref (aK E kd)) rfl dX12_isOfValue_21 ?_
        refine g_gets hX (pc := 24) (v := .ref (aK E 2)) ((cx_gs hX).1.1 2 (by decide)).1 q280 rfl dX12_isOfValue_24 ?_
        refine g_acmp_ner hX (pc := 27) (tgt := 34) dX12_isOfValue_27 rfl (fun c4 => ?_) (fun c4 => ?_)
        · refine g_iconst hX (pc := 34) (v := 0) dX12_isOfValue_34 (by decide) ?_
          exact hj1 _ (by rw [if_neg c2, if_neg c3, if_neg c4])
        · refine g_iconst hX (pc := 30) (v := 1) dX12_isOfValue_30 (by decide) ?_
          refine g_goto hX (pc := 31) (tgt := 35) dX12_isOfValue_31 rfl ?_
          exact hj1 _ (by rw [if_neg c2, if_neg c3, if_pos c4])
  refine g_zret hX (pc := 35) hR (by (repeat' split) <;> rfl) ?_ (Nat.le_of_ble_eq_true rfl) (Nat.le_of_ble_eq_true rfl) dX12_isOfValue_35
  have e0 : aK E kd = aK E 0 ↔ kd = 0 := aK_inj hX hkd (by omega)
  have e1 : aK E kd = aK E 1 ↔ kd = 1 := aK_inj hX hkd (by omega)
  have e2 : aK E kd = aK E 2 ↔ kd = 2 := aK_inj hX hkd (by omega)
  refine ⟨?_, rfl⟩
  simp only [e0, e1, e2]
  rcases (show kd = 0 ∨ kd = 1 ∨ kd = 2 ∨ 3 ≤ kd by omega) with h | h | h | h
  · simp [h]
  · simp [h]
  · simp [h]
  · rw [if_neg (by omega), if_neg (by omega), if_neg (by omega), if_neg (by omega)]

set_option maxHeartbeats 4000000 in
theorem mt_Request_behind (E : EE) (l : Launch) (a : Nat) (cl : Int32) (kd : Nat) (ky : Int32) (ra : Int32) (rb : Int32) (rs : Int32) (st : Int32) (an : Int32) (sn : Int32) (v : Int32) (hkd : (kd < 6)) : Mt E l yX12_behind cX12_behind 2 (some .int) 1 0 0 1 [.ref a, .int v] [[(a, ob 10 [.int cl, .ref (aK E kd), .int ky, .int ra, .int rb, .int rs, .int st, .int an, .int sn])]] (fun (v_ : Option Value) (cs_ : List va_W) => v_ = some (.int (if kd = 0 then ra else if kd = 2 then (if v = ra then rb else v) else v)) ∧ cs_ = [[(a, ob 10 [.int cl, .ref (aK E kd), .int ky, .int ra, .int rb, .int rs, .int st, .int an, .int sn])]]) := by
  refine Mt.of (by decide) (Nat.le_of_ble_eq_true rfl) (fun X hX hR hin => ?_)
  refine g_lv1 (lv1 := [(0, .ref a), (1, .int v)]) rfl ?_
  refine g_aload_n hX (pc := 0) dX12_behind_0 0 rfl ?_
  refine g_get hX (pc := 1) fcX12 0 rfl 1 (by decide) q992 rfl (v := .ref (aK E kd)) rfl dX12_behind_1 ?_
  refine g_gets hX (pc := 4) (v := .ref (aK E 0)) ((cx_gs hX).1.1 0 (by decide)).1 q276 rfl dX12_behind_4 ?_
  refine g_val (v := if (aK E kd) = (aK E 0) then ra else (if (aK E kd) = (aK E 2) then (if v = ra then rb else v) else v)) (pcJ := 43) (st1 := []) (fun hj1 => ?_) ?_
  · refine g_acmp_ner hX (pc := 7) (tgt := 17) dX12_behind_7 rfl (fun c2 => ?_) (fun c2 => ?_)
    · refine g_aload_n hX (pc := 17) dX12_behind_17 0 rfl ?_
      refine g_get hX (pc := 18) fcX12 0 rfl 1 (by decide) q992 rfl (v := .ref (aK E kd)) rfl dX12_behind_18 ?_
      refine g_gets hX (pc := 21) (v := .ref (aK E 2)) ((cx_gs hX).1.1 2 (by decide)).1 q280 rfl dX12_behind_21 ?_
      refine g_acmp_ner hX (pc := 24) (tgt := 42) dX12_behind_24 rfl (fun c3 => ?_) (fun c3 => ?_)
      · refine g_iload_n hX (pc := 42) dX12_behind_42 1 rfl ?_
        exact hj1 _ (by rw [if_neg c2, if_neg c3])
      · refine g_iload_n hX (pc := 27) dX12_behind_27 1 rfl ?_
        refine g_aload_n hX (pc := 28) dX12_behind_28 0 rfl ?_
        refine g_get hX (pc := 29) fcX12 0 rfl 3 (by decide) q1001 rfl (v := .int ra) rfl dX12_behind_29 ?_
        refine g_icmp_ne hX (pc := 32) (tgt := 42) dX12_behind_32 rfl (fun c4 => ?_) (fun c4 => ?_)
        · refine g_iload_n hX (pc := 42) dX12_behind_42 1 rfl ?_
          exact hj1 _ (by rw [if_neg c2, if_pos c3, if_neg c4])
        · refine g_aload_n hX (pc := 35) dX12_behind_35 0 rfl ?_
          refine g_get hX (pc := 36) fcX12 0 rfl 4 (by decide) q1003 rfl (v := .int rb) rfl dX12_behind_36 ?_
          refine g_goto hX (pc := 39) (tgt := 43) dX12_behind_39 rfl ?_
          exact hj1 _ (by rw [if_neg c2, if_pos c3, if_pos c4])
    · refine g_aload_n hX (pc := 10) dX12_behind_10 0 rfl ?_
      refine g_get hX (pc := 11) fcX12 0 rfl 3 (by decide) q1001 rfl (v := .int ra) rfl dX12_behind_11 ?_
      refine g_goto hX (pc := 14) (tgt := 43) dX12_behind_14 rfl ?_
      exact hj1 _ (by rw [if_pos c2])
  refine g_iret hX (pc := 43) hR ?_ (Nat.le_of_ble_eq_true rfl) (Nat.le_of_ble_eq_true rfl) dX12_behind_43
  have e0 : aK E kd = aK E 0 ↔ kd = 0 := aK_inj hX hkd (by omega)
  have e1 : aK E kd = aK E 1 ↔ kd = 1 := aK_inj hX hkd (by omega)
  have e2 : aK E kd = aK E 2 ↔ kd = 2 := aK_inj hX hkd (by omega)
  refine ⟨?_, rfl⟩
  simp only [e0, e1, e2]

set_option maxHeartbeats 4000000 in
theorem mt_Request_told (E : EE) (l : Launch) (a : Nat) (cl : Int32) (kd : Nat) (ky : Int32) (ra : Int32) (rb : Int32) (rs : Int32) (st : Int32) (an : Int32) (sn : Int32) (v : Int32) (hkd : (kd < 6)) : Mt E l yX12_told cX12_told 2 (some .int) 1 0 0 1 [.ref a, .int v] [[(a, ob 10 [.int cl, .ref (aK E kd), .int ky, .int ra, .int rb, .int rs, .int st, .int an, .int sn])]] (fun (v_ : Option Value) (cs_ : List va_W) => v_ = some (.int (if kd = 2 then (if v = ra then 1 else 0) else v)) ∧ cs_ = [[(a, ob 10 [.int cl, .ref (aK E kd), .int ky, .int ra, .int rb, .int rs, .int st, .int an, .int sn])]]) := by
  refine Mt.of (by decide) (Nat.le_of_ble_eq_true rfl) (fun X hX hR hin => ?_)
  refine g_lv1 (lv1 := [(0, .ref a), (1, .int v)]) rfl ?_
  refine g_aload_n hX (pc := 0) dX12_told_0 0 rfl ?_
  refine g_get hX (pc := 1) fcX12 0 rfl 1 (by decide) q992 rfl (v := .ref (aK E kd)) rfl dX12_told_1 ?_
  refine g_gets hX (pc := 4) (v := .ref (aK E 2)) ((cx_gs hX).1.1 2 (by decide)).1 q280 rfl dX12_told_4 ?_
  refine g_val (v := if (aK E kd) = (aK E 2) then (if v = ra then 1 else 0) else v) (pcJ := 27) (st1 := []) (fun hj1 => ?_) ?_
  · refine g_acmp_ner hX (pc := 7) (tgt := 26) dX12_told_7 rfl (fun c2 => ?_) (fun c2 => ?_)
    · refine g_iload_n hX (pc := 26) dX12_told_26 1 rfl ?_
      exact hj1 _ (by rw [if_neg c2])
    · refine g_iload_n hX (pc := 10) dX12_told_10 1 rfl ?_
      refine g_aload_n hX (pc := 11) dX12_told_11 0 rfl ?_
      refine g_get hX (pc := 12) fcX12 0 rfl 3 (by decide) q1001 rfl (v := .int ra) rfl dX12_told_12 ?_
      refine g_icmp_ne hX (pc := 15) (tgt := 22) dX12_told_15 rfl (fun c3 => ?_) (fun c3 => ?_)
      · refine g_iconst hX (pc := 22) (v := 0) dX12_told_22 (by decide) ?_
        refine g_goto hX (pc := 23) (tgt := 27) dX12_told_23 rfl ?_
        exact hj1 _ (by rw [if_pos c2, if_neg c3])
      · refine g_iconst hX (pc := 18) (v := 1) dX12_told_18 (by decide) ?_
        refine g_goto hX (pc := 19) (tgt := 27) dX12_told_19 rfl ?_
        exact hj1 _ (by rw [if_pos c2, if_pos c3])
  refine g_iret hX (pc := 27) hR ?_ (Nat.le_of_ble_eq_true rfl) (Nat.le_of_ble_eq_true rfl) dX12_told_27
  have e0 : aK E kd = aK E 0 ↔ kd = 0 := aK_inj hX hkd (by omega)
  have e1 : aK E kd = aK E 1 ↔ kd = 1 := aK_inj hX hkd (by omega)
  have e2 : aK E kd = aK E 2 ↔ kd = 2 := aK_inj hX hkd (by omega)
  refine ⟨?_, rfl⟩
  simp only [e0, e1, e2]

set_option maxHeartbeats 4000000 in
theorem mt_Request_begin (E : EE) (l : Launch) (a : Nat) (cl : Int32) (kd : Nat) (ky : Int32) (ra : Int32) (rb : Int32) (rs : Int32) (st : Int32) (an : Int32) (sn : Int32) (now : Int32) : Mt E l yX12_begin cX12_begin 2 none 2 0 0 21 [.ref a, .int now] [[(a, ob 10 [.int cl, .ref (aK E kd), .int ky, .int ra, .int rb, .int rs, .int st, .int an, .int sn])]] (fun (v_ : Option Value) (cs_ : List va_W) => v_ = none ∧ cs_ = [[(a, ob 10 [.int cl, .ref (aK E kd), .int ky, .int ra, .int rb, .int rs, .int (if st = (-1) then now else st), .int an, .int (sn + 1)])]]) := by
  refine Mt.of (by decide) (Nat.le_of_ble_eq_true rfl) (fun X hX hR hin => ?_)
  refine g_lv1 (lv1 := [(0, .ref a), (1, .int now)]) rfl ?_
  refine g_aload_n hX (pc := 0) dX12_begin_0 0 rfl ?_
  refine g_aload_n hX (pc := 1) dX12_begin_1 0 rfl ?_
  refine g_callV hX (pc := 2) kX12_isSent (mt_Request_isSent E l a cl kd ky ra rb rs st an sn) q1449 fcX12 (sp_mem (i := 0) rfl) [0] rfl rfl rfl (Nat.le_of_ble_eq_true rfl) (Nat.le_of_ble_eq_true rfl) (Nat.le_of_ble_eq_true rfl) (Nat.le_of_ble_eq_true rfl) (Nat.le_of_ble_eq_true rfl) dX12_begin_2 (fun v w1 hp => ?_)
  obtain ⟨rfl, rfl⟩ := hp
  refine g_nrm (cs1 := [[(a, ob 10 [.int cl, .ref (aK E kd), .int ky, .int ra, .int rb, .int rs, .int st, .int an, .int sn])]]) (st1 := [.int (if st = (-1) then 0 else 1), .ref a]) rfl rfl ?_
  refine g_val (v := if st = (-1) then now else st) (pcJ := 16) (st1 := [.ref a]) (fun hj1 => ?_) ?_
  · refine g_if_eq hX (pc := 5) (tgt := 15) dX12_begin_5 rfl (fun c2_ => ?_) (fun c2_ => ?_)
    · have c2 := z01.mp c2_
      refine g_iload_n hX (pc := 15) dX12_begin_15 1 rfl ?_
      exact hj1 _ (by rw [if_pos c2])
    · have c2 := z01n.mp c2_
      refine g_aload_n hX (pc := 8) dX12_begin_8 0 rfl ?_
      refine g_get hX (pc := 9) fcX12 0 rfl 6 (by decide) q1008 rfl (v := .int st) rfl dX12_begin_9 ?_
      refine g_goto hX (pc := 12) (tgt := 16) dX12_begin_12 rfl ?_
      exact hj1 _ (by rw [if_neg c2])
  refine g_put hX (pc := 16) fcX12 0 (fs1 := [.int cl, .ref (aK E kd), .int ky, .int ra, .int rb, .int rs, .int (if st = (-1) then now else st), .int an, .int sn]) (cs1 := [[(a, ob 10 [.int cl, .ref (aK E kd), .int ky, .int ra, .int rb, .int rs, .int (if st = (-1) then now else st), .int an, .int sn])]]) rfl 6 (by decide) q1008 rfl rfl rfl rfl (Nat.le_of_ble_eq_true rfl) rfl rfl dX12_begin_16 ?_
  refine g_aload_n hX (pc := 19) dX12_begin_19 0 rfl ?_
  refine g_dup hX (pc := 20) dX12_begin_20 rfl ?_
  refine g_get hX (pc := 21) fcX12 0 rfl 8 (by decide) q1014 rfl (v := .int sn) rfl dX12_begin_21 ?_
  refine g_iconst hX (pc := 24) (v := 1) dX12_begin_24 (by decide) ?_
  refine g_iadd hX (pc := 25) dX12_begin_25 ?_
  refine g_put hX (pc := 26) fcX12 0 (fs1 := [.int cl, .ref (aK E kd), .int ky, .int ra, .int rb, .int rs, .int (if st = (-1) then now else st), .int an, .int (sn + 1)]) (cs1 := [[(a, ob 10 [.int cl, .ref (aK E kd), .int ky, .int ra, .int rb, .int rs, .int (if st = (-1) then now else st), .int an, .int (sn + 1)])]]) rfl 8 (by decide) q1014 rfl rfl rfl rfl (Nat.le_of_ble_eq_true rfl) rfl rfl dX12_begin_26 ?_
  refine g_vret hX (pc := 29) hR ?_ (Nat.le_of_ble_eq_true rfl) (Nat.le_of_ble_eq_true rfl) dX12_begin_29
  exact ⟨rfl, rfl⟩

set_option maxHeartbeats 4000000 in
theorem mt_Request_answer (E : EE) (l : Launch) (a : Nat) (cl : Int32) (kd : Nat) (ky : Int32) (ra : Int32) (rb : Int32) (rs : Int32) (st : Int32) (an : Int32) (sn : Int32) (t : Int32) (now : Int32) : Mt E l yX12_answer cX12_answer 3 none 2 0 0 21 [.ref a, .int t, .int now] [[(a, ob 10 [.int cl, .ref (aK E kd), .int ky, .int ra, .int rb, .int rs, .int st, .int an, .int sn])]] (fun (v_ : Option Value) (cs_ : List va_W) => v_ = none ∧ cs_ = [[(a, ob 10 [.int cl, .ref (aK E kd), .int ky, .int ra, .int rb, .int (if an = (-1) ∧ ¬ t = (-1) then t else rs), .int st, .int (if an = (-1) ∧ ¬ t = (-1) then now else an), .int sn])]]) := by
  refine Mt.of (by decide) (Nat.le_of_ble_eq_true rfl) (fun X hX hR hin => ?_)
  refine g_lv1 (lv1 := [(0, .ref a), (1, .int t), (2, .int now)]) rfl ?_
  refine g_aload_n hX (pc := 0) dX12_answer_0 0 rfl ?_
  refine g_callV hX (pc := 1) kX12_isAnswered (mt_Request_isAnswered E l a cl kd ky ra rb rs st an sn) q1174 fcX12 (sp_mem (i := 0) rfl) [0] rfl rfl rfl (Nat.le_of_ble_eq_true rfl) (Nat.le_of_ble_eq_true rfl) (Nat.le_of_ble_eq_true rfl) (Nat.le_of_ble_eq_true rfl) (Nat.le_of_ble_eq_true rfl) dX12_answer_1 (fun v w1 hp => ?_)
  obtain ⟨rfl, rfl⟩ := hp
  refine g_nrm (cs1 := [[(a, ob 10 [.int cl, .ref (aK E kd), .int ky, .int ra, .int rb, .int rs, .int st, .int an, .int sn])]]) (st1 := [.int (if an = (-1) then 0 else 1)]) rfl rfl ?_
  refine g_if_ne hX (pc := 4) (tgt := 22) dX12_answer_4 rfl (fun c1_ => ?_) (fun c1_ => ?_)
  · have c1 := z01n.mp c1_
    refine g_vret hX (pc := 22) hR ?_ (Nat.le_of_ble_eq_true rfl) (Nat.le_of_ble_eq_true rfl) dX12_answer_22
    exact ⟨rfl, by simp [*]⟩
  · have c1 := z01.mp c1_
    refine g_iload_n hX (pc := 7) dX12_answer_7 1 rfl ?_
    refine g_iconst hX (pc := 8) (v := (-1)) dX12_answer_8 (by decide) ?_
    refine g_icmp_eq hX (pc := 9) (tgt := 22) dX12_answer_9 rfl (fun c2 => ?_) (fun c2 => ?_)
    · refine g_vret hX (pc := 22) hR ?_ (Nat.le_of_ble_eq_true rfl) (Nat.le_of_ble_eq_true rfl) dX12_answer_22
      exact ⟨rfl, by simp [*]⟩
    · refine g_aload_n hX (pc := 12) dX12_answer_12 0 rfl ?_
      refine g_iload_n hX (pc := 13) dX12_answer_13 1 rfl ?_
      refine g_put hX (pc := 14) fcX12 0 (fs1 := [.int cl, .ref (aK E kd), .int ky, .int ra, .int rb, .int t, .int st, .int an, .int sn]) (cs1 := [[(a, ob 10 [.int cl, .ref (aK E kd), .int ky, .int ra, .int rb, .int t, .int st, .int an, .int sn])]]) rfl 5 (by decide) q1004 rfl rfl rfl rfl (Nat.le_of_ble_eq_true rfl) rfl rfl dX12_answer_14 ?_
      refine g_aload_n hX (pc := 17) dX12_answer_17 0 rfl ?_
      refine g_iload_n hX (pc := 18) dX12_answer_18 2 rfl ?_
      refine g_put hX (pc := 19) fcX12 0 (fs1 := [.int cl, .ref (aK E kd), .int ky, .int ra, .int rb, .int t, .int st, .int now, .int sn]) (cs1 := [[(a, ob 10 [.int cl, .ref (aK E kd), .int ky, .int ra, .int rb, .int t, .int st, .int now, .int sn])]]) rfl 7 (by decide) q1011 rfl rfl rfl rfl (Nat.le_of_ble_eq_true rfl) rfl rfl dX12_answer_19 ?_
      refine g_vret hX (pc := 22) hR ?_ (Nat.le_of_ble_eq_true rfl) (Nat.le_of_ble_eq_true rfl) dX12_answer_22
      exact ⟨rfl, by simp [*]⟩

set_option maxHeartbeats 4000000 in
theorem mt_Store_init (E : EE) (l : Launch) (a : Nat) : Mt E l yX8_init cX8_init 2 none 1 6 24 12 [.ref a] [[(a, ob 7 [.null, .null, .null, .null, .null, .null, .int 0])]] (fun (v_ : Option Value) (cs_ : List va_W) => ∃ (w : va_W), IsSt E a S0 w ∧ v_ = none ∧ cs_ = [w]) := by
  refine Mt.of (by decide) (Nat.le_of_ble_eq_true rfl) (fun X hX hR hin => ?_)
  refine g_lv1 (lv1 := [(0, .ref a)]) rfl ?_
  refine g_aload_n hX (pc := 0) dX8_init_0 0 rfl ?_
  refine g_objInit hX (pc := 1) q894 q_oi1 q_oi2 (Nat.le_of_ble_eq_true rfl) (Nat.le_of_ble_eq_true rfl) dX8_init_1 ?_
  refine g_aload_n hX (pc := 4) dX8_init_4 0 rfl ?_
  refine g_iconst hX (pc := 5) (v := 4) dX8_init_5 (by decide) ?_
  refine g_newi hX (pc := 6) q918 4 (by decide) (by decide) (Nat.le_of_ble_eq_true rfl) (Nat.le_of_ble_eq_true rfl) (Nat.le_of_ble_eq_true rfl) dX8_init_6 (fun q1 => ?_)
  refine g_putF hX (pc := 8) fcX8 1 (fs1 := [.ref q1, .null, .null, .null, .null, .null, .int 0]) (cs1 := [[(q1, iA (aC E 0) 4 (fun _ => 0))], [(a, ob 7 [.ref q1, .null, .null, .null, .null, .null, .int 0])]]) rfl 0 (by decide) q895 rfl rfl hin rfl rfl rfl (Nat.le_of_ble_eq_true rfl) rfl rfl dX8_init_8 ?_
  refine g_aload_n hX (pc := 11) dX8_init_11 0 rfl ?_
  refine g_iconst hX (pc := 12) (v := 4) dX8_init_12 (by decide) ?_
  refine g_newi hX (pc := 13) q918 4 (by decide) (by decide) (Nat.le_of_ble_eq_true rfl) (Nat.le_of_ble_eq_true rfl) (Nat.le_of_ble_eq_true rfl) dX8_init_13 (fun q2 => ?_)
  refine g_putF hX (pc := 15) fcX8 2 (fs1 := [.ref q1, .ref q2, .null, .null, .null, .null, .int 0]) (cs1 := [[(q2, iA (aC E 0) 4 (fun _ => 0))], [(q1, iA (aC E 0) 4 (fun _ => 0))], [(a, ob 7 [.ref q1, .ref q2, .null, .null, .null, .null, .int 0])]]) rfl 1 (by decide) q897 rfl rfl hin rfl rfl rfl (Nat.le_of_ble_eq_true rfl) rfl rfl dX8_init_15 ?_
  refine g_aload_n hX (pc := 18) dX8_init_18 0 rfl ?_
  refine g_iconst hX (pc := 19) (v := 4) dX8_init_19 (by decide) ?_
  refine g_newi hX (pc := 20) q918 4 (by decide) (by decide) (Nat.le_of_ble_eq_true rfl) (Nat.le_of_ble_eq_true rfl) (Nat.le_of_ble_eq_true rfl) dX8_init_20 (fun q3 => ?_)
  refine g_putF hX (pc := 22) fcX8 3 (fs1 := [.ref q1, .ref q2, .ref q3, .null, .null, .null, .int 0]) (cs1 := [[(q3, iA (aC E 0) 4 (fun _ => 0))], [(q2, iA (aC E 0) 4 (fun _ => 0))], [(q1, iA (aC E 0) 4 (fun _ => 0))], [(a, ob 7 [.ref q1, .ref q2, .ref q3, .null, .null, .null, .int 0])]]) rfl 2 (by decide) q898 rfl rfl hin rfl rfl rfl (Nat.le_of_ble_eq_true rfl) rfl rfl dX8_init_22 ?_
  refine g_aload_n hX (pc := 25) dX8_init_25 0 rfl ?_
  refine g_iconst hX (pc := 26) (v := 4) dX8_init_26 (by decide) ?_
  refine g_newi hX (pc := 27) q918 4 (by decide) (by decide) (Nat.le_of_ble_eq_true rfl) (Nat.le_of_ble_eq_true rfl) (Nat.le_of_ble_eq_true rfl) dX8_init_27 (fun q4 => ?_)
  refine g_putF hX (pc := 29) fcX8 4 (fs1 := [.ref q1, .ref q2, .ref q3, .ref q4, .null, .null, .int 0]) (cs1 := [[(q4, iA (aC E 0) 4 (fun _ => 0))], [(q3, iA (aC E 0) 4 (fun _ => 0))], [(q2, iA (aC E 0) 4 (fun _ => 0))], [(q1, iA (aC E 0) 4 (fun _ => 0))], [(a, ob 7 [.ref q1, .ref q2, .ref q3, .ref q4, .null, .null, .int 0])]]) rfl 3 (by decide) q899 rfl rfl hin rfl rfl rfl (Nat.le_of_ble_eq_true rfl) rfl rfl dX8_init_29 ?_
  refine g_aload_n hX (pc := 32) dX8_init_32 0 rfl ?_
  refine g_iconst hX (pc := 33) (v := 4) dX8_init_33 (by decide) ?_
  refine g_newi hX (pc := 34) q918 4 (by decide) (by decide) (Nat.le_of_ble_eq_true rfl) (Nat.le_of_ble_eq_true rfl) (Nat.le_of_ble_eq_true rfl) dX8_init_34 (fun q5 => ?_)
  refine g_putF hX (pc := 36) fcX8 5 (fs1 := [.ref q1, .ref q2, .ref q3, .ref q4, .ref q5, .null, .int 0]) (cs1 := [[(q5, iA (aC E 0) 4 (fun _ => 0))], [(q4, iA (aC E 0) 4 (fun _ => 0))], [(q3, iA (aC E 0) 4 (fun _ => 0))], [(q2, iA (aC E 0) 4 (fun _ => 0))], [(q1, iA (aC E 0) 4 (fun _ => 0))], [(a, ob 7 [.ref q1, .ref q2, .ref q3, .ref q4, .ref q5, .null, .int 0])]]) rfl 4 (by decide) q900 rfl rfl hin rfl rfl rfl (Nat.le_of_ble_eq_true rfl) rfl rfl dX8_init_36 ?_
  refine g_aload_n hX (pc := 39) dX8_init_39 0 rfl ?_
  refine g_iconst hX (pc := 40) (v := 4) dX8_init_40 (by decide) ?_
  refine g_newi hX (pc := 41) q918 4 (by decide) (by decide) (Nat.le_of_ble_eq_true rfl) (Nat.le_of_ble_eq_true rfl) (Nat.le_of_ble_eq_true rfl) dX8_init_41 (fun q6 => ?_)
  refine g_putF hX (pc := 43) fcX8 6 (fs1 := [.ref q1, .ref q2, .ref q3, .ref q4, .ref q5, .ref q6, .int 0]) (cs1 := [[(q6, iA (aC E 0) 4 (fun _ => 0))], [(q5, iA (aC E 0) 4 (fun _ => 0))], [(q4, iA (aC E 0) 4 (fun _ => 0))], [(q3, iA (aC E 0) 4 (fun _ => 0))], [(q2, iA (aC E 0) 4 (fun _ => 0))], [(q1, iA (aC E 0) 4 (fun _ => 0))], [(a, ob 7 [.ref q1, .ref q2, .ref q3, .ref q4, .ref q5, .ref q6, .int 0])]]) rfl 5 (by decide) q901 rfl rfl hin rfl rfl rfl (Nat.le_of_ble_eq_true rfl) rfl rfl dX8_init_43 ?_
  refine g_iconst hX (pc := 46) (v := 0) dX8_init_46 (by decide) ?_
  refine g_istore_n hX (pc := 47) (lv1 := [(1, .int 0), (0, .ref a)]) dX8_init_47 (by decide) rfl ?_
  refine g_iload_n hX (pc := 48) dX8_init_48 0 rfl ?_
  refine g_iconst hX (pc := 49) (v := 4) dX8_init_49 (by decide) ?_
  refine g_icmp_ge hX (pc := 50) (tgt := 80) dX8_init_50 rfl (fun c7 => ?_) (fun c7 => ?_)
  · exact absurd c7 (by decide)
  · refine g_aload_n hX (pc := 53) dX8_init_53 1 rfl ?_
    refine g_get hX (pc := 54) fcX8 6 rfl 1 (by decide) q897 rfl (v := .ref q2) rfl dX8_init_54 ?_
    refine g_iload_n hX (pc := 57) dX8_init_57 0 rfl ?_
    refine g_iconst hX (pc := 58) (v := (-1)) dX8_init_58 (by decide) ?_
    refine g_iast hX (pc := 59) (f1 := (upd (fun _ => 0) 0 (-1))) (cs1 := [[(q6, iA (aC E 0) 4 (fun _ => 0))], [(q5, iA (aC E 0) 4 (fun _ => 0))], [(q4, iA (aC E 0) 4 (fun _ => 0))], [(q3, iA (aC E 0) 4 (fun _ => 0))], [(q2, iA (aC E 0) 4 (upd (fun _ => 0) 0 (-1)))], [(q1, iA (aC E 0) 4 (fun _ => 0))], [(a, ob 7 [.ref q1, .ref q2, .ref q3, .ref q4, .ref q5, .ref q6, .int 0])]]) 4 rfl (by unfold vp_in; decide) rfl rfl dX8_init_59 ?_
    refine g_aload_n hX (pc := 60) dX8_init_60 1 rfl ?_
    refine g_get hX (pc := 61) fcX8 6 rfl 3 (by decide) q899 rfl (v := .ref q4) rfl dX8_init_61 ?_
    refine g_iload_n hX (pc := 64) dX8_init_64 0 rfl ?_
    refine g_iconst hX (pc := 65) (v := (-1)) dX8_init_65 (by decide) ?_
    refine g_iast hX (pc := 66) (f1 := (upd (fun _ => 0) 0 (-1))) (cs1 := [[(q6, iA (aC E 0) 4 (fun _ => 0))], [(q5, iA (aC E 0) 4 (fun _ => 0))], [(q4, iA (aC E 0) 4 (upd (fun _ => 0) 0 (-1)))], [(q3, iA (aC E 0) 4 (fun _ => 0))], [(q2, iA (aC E 0) 4 (upd (fun _ => 0) 0 (-1)))], [(q1, iA (aC E 0) 4 (fun _ => 0))], [(a, ob 7 [.ref q1, .ref q2, .ref q3, .ref q4, .ref q5, .ref q6, .int 0])]]) 2 rfl (by unfold vp_in; decide) rfl rfl dX8_init_66 ?_
    refine g_aload_n hX (pc := 67) dX8_init_67 1 rfl ?_
    refine g_get hX (pc := 68) fcX8 6 rfl 4 (by decide) q900 rfl (v := .ref q5) rfl dX8_init_68 ?_
    refine g_iload_n hX (pc := 71) dX8_init_71 0 rfl ?_
    refine g_iconst hX (pc := 72) (v := (-1)) dX8_init_72 (by decide) ?_
    refine g_iast hX (pc := 73) (f1 := (upd (fun _ => 0) 0 (-1))) (cs1 := [[(q6, iA (aC E 0) 4 (fun _ => 0))], [(q5, iA (aC E 0) 4 (upd (fun _ => 0) 0 (-1)))], [(q4, iA (aC E 0) 4 (upd (fun _ => 0) 0 (-1)))], [(q3, iA (aC E 0) 4 (fun _ => 0))], [(q2, iA (aC E 0) 4 (upd (fun _ => 0) 0 (-1)))], [(q1, iA (aC E 0) 4 (fun _ => 0))], [(a, ob 7 [.ref q1, .ref q2, .ref q3, .ref q4, .ref q5, .ref q6, .int 0])]]) 1 rfl (by unfold vp_in; decide) rfl rfl dX8_init_73 ?_
    refine g_iinc hX (pc := 74) (v := 1) (lv1 := [(1, .int 1), (0, .ref a)]) dX8_init_74 0 rfl (by decide) (by decide) rfl ?_
    refine g_goto hX (pc := 77) (tgt := 48) dX8_init_77 rfl ?_
    refine g_iload_n hX (pc := 48) dX8_init_48 0 rfl ?_
    refine g_iconst hX (pc := 49) (v := 4) dX8_init_49 (by decide) ?_
    refine g_icmp_ge hX (pc := 50) (tgt := 80) dX8_init_50 rfl (fun c8 => ?_) (fun c8 => ?_)
    · exact absurd c8 (by decide)
    · refine g_aload_n hX (pc := 53) dX8_init_53 1 rfl ?_
      refine g_get hX (pc := 54) fcX8 6 rfl 1 (by decide) q897 rfl (v := .ref q2) rfl dX8_init_54 ?_
      refine g_iload_n hX (pc := 57) dX8_init_57 0 rfl ?_
      refine g_iconst hX (pc := 58) (v := (-1)) dX8_init_58 (by decide) ?_
      refine g_iast hX (pc := 59) (f1 := (upd (upd (fun _ => 0) 0 (-1)) 1 (-1))) (cs1 := [[(q6, iA (aC E 0) 4 (fun _ => 0))], [(q5, iA (aC E 0) 4 (upd (fun _ => 0) 0 (-1)))], [(q4, iA (aC E 0) 4 (upd (fun _ => 0) 0 (-1)))], [(q3, iA (aC E 0) 4 (fun _ => 0))], [(q2, iA (aC E 0) 4 (upd (upd (fun _ => 0) 0 (-1)) 1 (-1)))], [(q1, iA (aC E 0) 4 (fun _ => 0))], [(a, ob 7 [.ref q1, .ref q2, .ref q3, .ref q4, .ref q5, .ref q6, .int 0])]]) 4 rfl (by unfold vp_in; decide) rfl rfl dX8_init_59 ?_
      refine g_aload_n hX (pc := 60) dX8_init_60 1 rfl ?_
      refine g_get hX (pc := 61) fcX8 6 rfl 3 (by decide) q899 rfl (v := .ref q4) rfl dX8_init_61 ?_
      refine g_iload_n hX (pc := 64) dX8_init_64 0 rfl ?_
      refine g_iconst hX (pc := 65) (v := (-1)) dX8_init_65 (by decide) ?_
      refine g_iast hX (pc := 66) (f1 := (upd (upd (fun _ => 0) 0 (-1)) 1 (-1))) (cs1 := [[(q6, iA (aC E 0) 4 (fun _ => 0))], [(q5, iA (aC E 0) 4 (upd (fun _ => 0) 0 (-1)))], [(q4, iA (aC E 0) 4 (upd (upd (fun _ => 0) 0 (-1)) 1 (-1)))], [(q3, iA (aC E 0) 4 (fun _ => 0))], [(q2, iA (aC E 0) 4 (upd (upd (fun _ => 0) 0 (-1)) 1 (-1)))], [(q1, iA (aC E 0) 4 (fun _ => 0))], [(a, ob 7 [.ref q1, .ref q2, .ref q3, .ref q4, .ref q5, .ref q6, .int 0])]]) 2 rfl (by unfold vp_in; decide) rfl rfl dX8_init_66 ?_
      refine g_aload_n hX (pc := 67) dX8_init_67 1 rfl ?_
      refine g_get hX (pc := 68) fcX8 6 rfl 4 (by decide) q900 rfl (v := .ref q5) rfl dX8_init_68 ?_
      refine g_iload_n hX (pc := 71) dX8_init_71 0 rfl ?_
      refine g_iconst hX (pc := 72) (v := (-1)) dX8_init_72 (by decide) ?_
      refine g_iast hX (pc := 73) (f1 := (upd (upd (fun _ => 0) 0 (-1)) 1 (-1))) (cs1 := [[(q6, iA (aC E 0) 4 (fun _ => 0))], [(q5, iA (aC E 0) 4 (upd (upd (fun _ => 0) 0 (-1)) 1 (-1)))], [(q4, iA (aC E 0) 4 (upd (upd (fun _ => 0) 0 (-1)) 1 (-1)))], [(q3, iA (aC E 0) 4 (fun _ => 0))], [(q2, iA (aC E 0) 4 (upd (upd (fun _ => 0) 0 (-1)) 1 (-1)))], [(q1, iA (aC E 0) 4 (fun _ => 0))], [(a, ob 7 [.ref q1, .ref q2, .ref q3, .ref q4, .ref q5, .ref q6, .int 0])]]) 1 rfl (by unfold vp_in; decide) rfl rfl dX8_init_73 ?_
      refine g_iinc hX (pc := 74) (v := 2) (lv1 := [(1, .int 2), (0, .ref a)]) dX8_init_74 0 rfl (by decide) (by decide) rfl ?_
      refine g_goto hX (pc := 77) (tgt := 48) dX8_init_77 rfl ?_
      refine g_iload_n hX (pc := 48) dX8_init_48 0 rfl ?_
      refine g_iconst hX (pc := 49) (v := 4) dX8_init_49 (by decide) ?_
      refine g_icmp_ge hX (pc := 50) (tgt := 80) dX8_init_50 rfl (fun c9 => ?_) (fun c9 => ?_)
      · exact absurd c9 (by decide)
      · refine g_aload_n hX (pc := 53) dX8_init_53 1 rfl ?_
        refine g_get hX (pc := 54) fcX8 6 rfl 1 (by decide) q897 rfl (v := .ref q2) rfl dX8_init_54 ?_
        refine g_iload_n hX (pc := 57) dX8_init_57 0 rfl ?_
        refine g_iconst hX (pc := 58) (v := (-1)) dX8_init_58 (by decide) ?_
        refine g_iast hX (pc := 59) (f1 := (upd (upd (upd (fun _ => 0) 0 (-1)) 1 (-1)) 2 (-1))) (cs1 := [[(q6, iA (aC E 0) 4 (fun _ => 0))], [(q5, iA (aC E 0) 4 (upd (upd (fun _ => 0) 0 (-1)) 1 (-1)))], [(q4, iA (aC E 0) 4 (upd (upd (fun _ => 0) 0 (-1)) 1 (-1)))], [(q3, iA (aC E 0) 4 (fun _ => 0))], [(q2, iA (aC E 0) 4 (upd (upd (upd (fun _ => 0) 0 (-1)) 1 (-1)) 2 (-1)))], [(q1, iA (aC E 0) 4 (fun _ => 0))], [(a, ob 7 [.ref q1, .ref q2, .ref q3, .ref q4, .ref q5, .ref q6, .int 0])]]) 4 rfl (by unfold vp_in; decide) rfl rfl dX8_init_59 ?_
        refine g_aload_n hX (pc := 60) dX8_init_60 1 rfl ?_
        refine g_get hX (pc := 61) fcX8 6 rfl 3 (by decide) q899 rfl (v := .ref q4) rfl dX8_init_61 ?_
        refine g_iload_n hX (pc := 64) dX8_init_64 0 rfl ?_
        refine g_iconst hX (pc := 65) (v := (-1)) dX8_init_65 (by decide) ?_
        refine g_iast hX (pc := 66) (f1 := (upd (upd (upd (fun _ => 0) 0 (-1)) 1 (-1)) 2 (-1))) (cs1 := [[(q6, iA (aC E 0) 4 (fun _ => 0))], [(q5, iA (aC E 0) 4 (upd (upd (fun _ => 0) 0 (-1)) 1 (-1)))], [(q4, iA (aC E 0) 4 (upd (upd (upd (fun _ => 0) 0 (-1)) 1 (-1)) 2 (-1)))], [(q3, iA (aC E 0) 4 (fun _ => 0))], [(q2, iA (aC E 0) 4 (upd (upd (upd (fun _ => 0) 0 (-1)) 1 (-1)) 2 (-1)))], [(q1, iA (aC E 0) 4 (fun _ => 0))], [(a, ob 7 [.ref q1, .ref q2, .ref q3, .ref q4, .ref q5, .ref q6, .int 0])]]) 2 rfl (by unfold vp_in; decide) rfl rfl dX8_init_66 ?_
        refine g_aload_n hX (pc := 67) dX8_init_67 1 rfl ?_
        refine g_get hX (pc := 68) fcX8 6 rfl 4 (by decide) q900 rfl (v := .ref q5) rfl dX8_init_68 ?_
        refine g_iload_n hX (pc := 71) dX8_init_71 0 rfl ?_
        refine g_iconst hX (pc := 72) (v := (-1)) dX8_init_72 (by decide) ?_
        refine g_iast hX (pc := 73) (f1 := (upd (upd (upd (fun _ => 0) 0 (-1)) 1 (-1)) 2 (-1))) (cs1 := [[(q6, iA (aC E 0) 4 (fun _ => 0))], [(q5, iA (aC E 0) 4 (upd (upd (upd (fun _ => 0) 0 (-1)) 1 (-1)) 2 (-1)))], [(q4, iA (aC E 0) 4 (upd (upd (upd (fun _ => 0) 0 (-1)) 1 (-1)) 2 (-1)))], [(q3, iA (aC E 0) 4 (fun _ => 0))], [(q2, iA (aC E 0) 4 (upd (upd (upd (fun _ => 0) 0 (-1)) 1 (-1)) 2 (-1)))], [(q1, iA (aC E 0) 4 (fun _ => 0))], [(a, ob 7 [.ref q1, .ref q2, .ref q3, .ref q4, .ref q5, .ref q6, .int 0])]]) 1 rfl (by unfold vp_in; decide) rfl rfl dX8_init_73 ?_
        refine g_iinc hX (pc := 74) (v := 3) (lv1 := [(1, .int 3), (0, .ref a)]) dX8_init_74 0 rfl (by decide) (by decide) rfl ?_
        refine g_goto hX (pc := 77) (tgt := 48) dX8_init_77 rfl ?_
        refine g_iload_n hX (pc := 48) dX8_init_48 0 rfl ?_
        refine g_iconst hX (pc := 49) (v := 4) dX8_init_49 (by decide) ?_
        refine g_icmp_ge hX (pc := 50) (tgt := 80) dX8_init_50 rfl (fun c10 => ?_) (fun c10 => ?_)
        · exact absurd c10 (by decide)
        · refine g_aload_n hX (pc := 53) dX8_init_53 1 rfl ?_
          refine g_get hX (pc := 54) fcX8 6 rfl 1 (by decide) q897 rfl (v := .ref q2) rfl dX8_init_54 ?_
          refine g_iload_n hX (pc := 57) dX8_init_57 0 rfl ?_
          refine g_iconst hX (pc := 58) (v := (-1)) dX8_init_58 (by decide) ?_
          refine g_iast hX (pc := 59) (f1 := (upd (upd (upd (upd (fun _ => 0) 0 (-1)) 1 (-1)) 2 (-1)) 3 (-1))) (cs1 := [[(q6, iA (aC E 0) 4 (fun _ => 0))], [(q5, iA (aC E 0) 4 (upd (upd (upd (fun _ => 0) 0 (-1)) 1 (-1)) 2 (-1)))], [(q4, iA (aC E 0) 4 (upd (upd (upd (fun _ => 0) 0 (-1)) 1 (-1)) 2 (-1)))], [(q3, iA (aC E 0) 4 (fun _ => 0))], [(q2, iA (aC E 0) 4 (upd (upd (upd (upd (fun _ => 0) 0 (-1)) 1 (-1)) 2 (-1)) 3 (-1)))], [(q1, iA (aC E 0) 4 (fun _ => 0))], [(a, ob 7 [.ref q1, .ref q2, .ref q3, .ref q4, .ref q5, .ref q6, .int 0])]]) 4 rfl (by unfold vp_in; decide) rfl rfl dX8_init_59 ?_
          refine g_aload_n hX (pc := 60) dX8_init_60 1 rfl ?_
          refine g_get hX (pc := 61) fcX8 6 rfl 3 (by decide) q899 rfl (v := .ref q4) rfl dX8_init_61 ?_
          refine g_iload_n hX (pc := 64) dX8_init_64 0 rfl ?_
          refine g_iconst hX (pc := 65) (v := (-1)) dX8_init_65 (by decide) ?_
          refine g_iast hX (pc := 66) (f1 := (upd (upd (upd (upd (fun _ => 0) 0 (-1)) 1 (-1)) 2 (-1)) 3 (-1))) (cs1 := [[(q6, iA (aC E 0) 4 (fun _ => 0))], [(q5, iA (aC E 0) 4 (upd (upd (upd (fun _ => 0) 0 (-1)) 1 (-1)) 2 (-1)))], [(q4, iA (aC E 0) 4 (upd (upd (upd (upd (fun _ => 0) 0 (-1)) 1 (-1)) 2 (-1)) 3 (-1)))], [(q3, iA (aC E 0) 4 (fun _ => 0))], [(q2, iA (aC E 0) 4 (upd (upd (upd (upd (fun _ => 0) 0 (-1)) 1 (-1)) 2 (-1)) 3 (-1)))], [(q1, iA (aC E 0) 4 (fun _ => 0))], [(a, ob 7 [.ref q1, .ref q2, .ref q3, .ref q4, .ref q5, .ref q6, .int 0])]]) 2 rfl (by unfold vp_in; decide) rfl rfl dX8_init_66 ?_
          refine g_aload_n hX (pc := 67) dX8_init_67 1 rfl ?_
          refine g_get hX (pc := 68) fcX8 6 rfl 4 (by decide) q900 rfl (v := .ref q5) rfl dX8_init_68 ?_
          refine g_iload_n hX (pc := 71) dX8_init_71 0 rfl ?_
          refine g_iconst hX (pc := 72) (v := (-1)) dX8_init_72 (by decide) ?_
          refine g_iast hX (pc := 73) (f1 := (upd (upd (upd (upd (fun _ => 0) 0 (-1)) 1 (-1)) 2 (-1)) 3 (-1))) (cs1 := [[(q6, iA (aC E 0) 4 (fun _ => 0))], [(q5, iA (aC E 0) 4 (upd (upd (upd (upd (fun _ => 0) 0 (-1)) 1 (-1)) 2 (-1)) 3 (-1)))], [(q4, iA (aC E 0) 4 (upd (upd (upd (upd (fun _ => 0) 0 (-1)) 1 (-1)) 2 (-1)) 3 (-1)))], [(q3, iA (aC E 0) 4 (fun _ => 0))], [(q2, iA (aC E 0) 4 (upd (upd (upd (upd (fun _ => 0) 0 (-1)) 1 (-1)) 2 (-1)) 3 (-1)))], [(q1, iA (aC E 0) 4 (fun _ => 0))], [(a, ob 7 [.ref q1, .ref q2, .ref q3, .ref q4, .ref q5, .ref q6, .int 0])]]) 1 rfl (by unfold vp_in; decide) rfl rfl dX8_init_73 ?_
          refine g_iinc hX (pc := 74) (v := 4) (lv1 := [(1, .int 4), (0, .ref a)]) dX8_init_74 0 rfl (by decide) (by decide) rfl ?_
          refine g_goto hX (pc := 77) (tgt := 48) dX8_init_77 rfl ?_
          refine g_iload_n hX (pc := 48) dX8_init_48 0 rfl ?_
          refine g_iconst hX (pc := 49) (v := 4) dX8_init_49 (by decide) ?_
          refine g_icmp_ge hX (pc := 50) (tgt := 80) dX8_init_50 rfl (fun c11 => ?_) (fun c11 => ?_)
          · refine g_pk [6, 5, 4, 3, 2, 1, 0] rfl ?_
            refine g_fl (cs1 := [[(a, ob 7 [.ref q1, .ref q2, .ref q3, .ref q4, .ref q5, .ref q6, .int 0]), (q1, iA (aC E 0) 4 (fun _ => 0)), (q2, iA (aC E 0) 4 (upd (upd (upd (upd (fun _ => 0) 0 (-1)) 1 (-1)) 2 (-1)) 3 (-1))), (q3, iA (aC E 0) 4 (fun _ => 0)), (q4, iA (aC E 0) 4 (upd (upd (upd (upd (fun _ => 0) 0 (-1)) 1 (-1)) 2 (-1)) 3 (-1))), (q5, iA (aC E 0) 4 (upd (upd (upd (upd (fun _ => 0) 0 (-1)) 1 (-1)) 2 (-1)) 3 (-1))), (q6, iA (aC E 0) 4 (fun _ => 0))]]) rfl ?_
            refine g_vret hX (pc := 80) hR ?_ (Nat.le_of_ble_eq_true rfl) (Nat.le_of_ble_eq_true rfl) dX8_init_80
            exact ⟨_, IsSt.mk6 (by intro k hk; rcases (show k = 0 ∨ k = 1 ∨ k = 2 ∨ k = 3 by omega) with rfl | rfl | rfl | rfl <;> decide) rfl, rfl, rfl⟩
          · exact absurd c11 (by decide)

set_option maxHeartbeats 4000000 in
theorem mt_Store_told (E : EE) (l : Launch) (a : Nat) (sr : Nat → Nat) (S : PS) (w : va_W) (ky : Nat) (wh : Nat) (hw : IsSR E a sr S w) (hk : (ky < 4)) (hh : (wh < 5)) : Mt E l yX8_told cX8_told 3 (some .int) 1 0 0 1 [.ref a, .int (nI ky), .int (nI wh)] [w] (fun (v_ : Option Value) (cs_ : List va_W) => v_ = some (.int (if wh < 4 then S wh ky else S 6 0)) ∧ cs_ = [w]) := by
  obtain ⟨f0, f1, f2, f3, f4, f5, hS, rfl⟩ := hw
  obtain ⟨e0, e1, e2, e3, e4, e5⟩ := hS ky hk
  have n0 : nI wh = 0 ↔ wh = 0 := by rw [← nI_0, nI_eq (by omega) (by omega)]
  have n1 : nI wh = 1 ↔ wh = 1 := by rw [show (1 : Int32) = nI 1 from rfl, nI_eq (by omega) (by omega)]
  have n2 : nI wh = 2 ↔ wh = 2 := by rw [show (2 : Int32) = nI 2 from rfl, nI_eq (by omega) (by omega)]
  have n3 : nI wh = 3 ↔ wh = 3 := by rw [show (3 : Int32) = nI 3 from rfl, nI_eq (by omega) (by omega)]
  refine Mt.of (by decide) (Nat.le_of_ble_eq_true rfl) (fun X hX hR hin => ?_)
  refine g_lv1 (lv1 := [(0, .ref a), (1, .int (nI ky)), (2, .int (nI wh))]) rfl ?_
  refine g_fl (cs1 := [[(a, ob 7 [.ref (sr 0), .ref (sr 1), .ref (sr 2), .ref (sr 3), .ref (sr 4), .ref (sr 5), .int (S 6 0)])], [(sr 0, iA (aC E 0) 4 f0)], [(sr 1, iA (aC E 0) 4 f1)], [(sr 2, iA (aC E 0) 4 f2)], [(sr 3, iA (aC E 0) 4 f3)], [(sr 4, iA (aC E 0) 4 f4)], [(sr 5, iA (aC E 0) 4 f5)]]) rfl ?_
  refine g_iload_n hX (pc := 0) dX8_told_0 2 rfl ?_
  refine g_val (v := if (nI wh) = 0 then (f0 ky) else (if (nI wh) = 1 then (f1 ky) else (if (nI wh) = 2 then (f2 ky) else (if (nI wh) = 3 then (f3 ky) else (S 6 0))))) (pcJ := 59) (st1 := []) (fun hj1 => ?_) ?_
  · refine g_if_ne hX (pc := 1) (tgt := 13) dX8_told_1 rfl (fun c2 => ?_) (fun c2 => ?_)
    · refine g_iload_n hX (pc := 13) dX8_told_13 2 rfl ?_
      refine g_iconst hX (pc := 14) (v := 1) dX8_told_14 (by decide) ?_
      refine g_icmp_ne hX (pc := 15) (tgt := 27) dX8_told_15 rfl (fun c3 => ?_) (fun c3 => ?_)
      · refine g_iload_n hX (pc := 27) dX8_told_27 2 rfl ?_
        refine g_iconst hX (pc := 28) (v := 2) dX8_told_28 (by decide) ?_
        refine g_icmp_ne hX (pc := 29) (tgt := 41) dX8_told_29 rfl (fun c4 => ?_) (fun c4 => ?_)
        · refine g_iload_n hX (pc := 41) dX8_told_41 2 rfl ?_
          refine g_iconst hX (pc := 42) (v := 3) dX8_told_42 (by decide) ?_
          refine g_icmp_ne hX (pc := 43) (tgt := 55) dX8_told_43 rfl (fun c5 => ?_) (fun c5 => ?_)
          · refine g_aload_n hX (pc := 55) dX8_told_55 0 rfl ?_
            refine g_get hX (pc := 56) fcX8 0 rfl 6 (by decide) q902 rfl (v := .int (S 6 0)) rfl dX8_told_56 ?_
            exact hj1 _ (by rw [if_neg c2, if_neg c3, if_neg c4, if_neg c5])
          · refine g_aload_n hX (pc := 46) dX8_told_46 0 rfl ?_
            refine g_get hX (pc := 47) fcX8 0 rfl 3 (by decide) q899 rfl (v := .ref (sr 3)) rfl dX8_told_47 ?_
            refine g_iload_n hX (pc := 50) dX8_told_50 1 rfl ?_
            refine g_iald hX (pc := 51) (sp_mem (i := 4) rfl) (v := f3 ky) (vp_in_nI (by omega) (by omega)) (by rw [nI_clamp (by omega)]) dX8_told_51 ?_
            refine g_goto hX (pc := 52) (tgt := 59) dX8_told_52 rfl ?_
            exact hj1 _ (by rw [if_neg c2, if_neg c3, if_neg c4, if_pos c5])
        · refine g_aload_n hX (pc := 32) dX8_told_32 0 rfl ?_
          refine g_get hX (pc := 33) fcX8 0 rfl 2 (by decide) q898 rfl (v := .ref (sr 2)) rfl dX8_told_33 ?_
          refine g_iload_n hX (pc := 36) dX8_told_36 1 rfl ?_
          refine g_iald hX (pc := 37) (sp_mem (i := 3) rfl) (v := f2 ky) (vp_in_nI (by omega) (by omega)) (by rw [nI_clamp (by omega)]) dX8_told_37 ?_
          refine g_goto hX (pc := 38) (tgt := 59) dX8_told_38 rfl ?_
          exact hj1 _ (by rw [if_neg c2, if_neg c3, if_pos c4])
      · refine g_aload_n hX (pc := 18) dX8_told_18 0 rfl ?_
        refine g_get hX (pc := 19) fcX8 0 rfl 1 (by decide) q897 rfl (v := .ref (sr 1)) rfl dX8_told_19 ?_
        refine g_iload_n hX (pc := 22) dX8_told_22 1 rfl ?_
        refine g_iald hX (pc := 23) (sp_mem (i := 2) rfl) (v := f1 ky) (vp_in_nI (by omega) (by omega)) (by rw [nI_clamp (by omega)]) dX8_told_23 ?_
        refine g_goto hX (pc := 24) (tgt := 59) dX8_told_24 rfl ?_
        exact hj1 _ (by rw [if_neg c2, if_pos c3])
    · refine g_aload_n hX (pc := 4) dX8_told_4 0 rfl ?_
      refine g_get hX (pc := 5) fcX8 0 rfl 0 (by decide) q895 rfl (v := .ref (sr 0)) rfl dX8_told_5 ?_
      refine g_iload_n hX (pc := 8) dX8_told_8 1 rfl ?_
      refine g_iald hX (pc := 9) (sp_mem (i := 1) rfl) (v := f0 ky) (vp_in_nI (by omega) (by omega)) (by rw [nI_clamp (by omega)]) dX8_told_9 ?_
      refine g_goto hX (pc := 10) (tgt := 59) dX8_told_10 rfl ?_
      exact hj1 _ (by rw [if_pos c2])
  refine g_pk [0, 0, 0, 0, 0, 0, 0] rfl ?_
  refine g_fl (cs1 := [[(a, ob 7 [.ref (sr 0), .ref (sr 1), .ref (sr 2), .ref (sr 3), .ref (sr 4), .ref (sr 5), .int (S 6 0)]), (sr 0, iA (aC E 0) 4 f0), (sr 1, iA (aC E 0) 4 f1), (sr 2, iA (aC E 0) 4 f2), (sr 3, iA (aC E 0) 4 f3), (sr 4, iA (aC E 0) 4 f4), (sr 5, iA (aC E 0) 4 f5)]]) rfl ?_
  refine g_iret hX (pc := 59) hR ?_ (Nat.le_of_ble_eq_true rfl) (Nat.le_of_ble_eq_true rfl) dX8_told_59
  refine ⟨?_, rfl⟩
  simp only [n0, n1, n2, n3, e0, e1, e2, e3]
  rcases (show wh = 0 ∨ wh = 1 ∨ wh = 2 ∨ wh = 3 ∨ wh = 4 by omega) with h | h | h | h | h <;> simp [h]

set_option maxHeartbeats 4000000 in
theorem mt_Store_free (E : EE) (l : Launch) (a : Nat) (sr : Nat → Nat) (S : PS) (w : va_W) (ky : Nat) (c : Int32) (hw : IsSR E a sr S w) (hk : (ky < 4)) : Mt E l yX8_free cX8_free 3 (some .int) 1 0 0 1 [.ref a, .int (nI ky), .int c] [w] (fun (v_ : Option Value) (cs_ : List va_W) => ∃ (w1 : va_W), IsSR E a sr (Prod.fst (sFree S ky c)) w1 ∧ v_ = some (.int (Prod.snd (sFree S ky c))) ∧ cs_ = [w1]) := by
  obtain ⟨f0, f1, f2, f3, f4, f5, hS, rfl⟩ := hw
  obtain ⟨e0, e1, e2, e3, e4, e5⟩ := hS ky hk
  refine Mt.of (by decide) (Nat.le_of_ble_eq_true rfl) (fun X hX hR hin => ?_)
  refine g_lv1 (lv1 := [(0, .ref a), (1, .int (nI ky)), (2, .int c)]) rfl ?_
  refine g_fl (cs1 := [[(a, ob 7 [.ref (sr 0), .ref (sr 1), .ref (sr 2), .ref (sr 3), .ref (sr 4), .ref (sr 5), .int (S 6 0)])], [(sr 0, iA (aC E 0) 4 f0)], [(sr 1, iA (aC E 0) 4 f1)], [(sr 2, iA (aC E 0) 4 f2)], [(sr 3, iA (aC E 0) 4 f3)], [(sr 4, iA (aC E 0) 4 f4)], [(sr 5, iA (aC E 0) 4 f5)]]) rfl ?_
  refine g_aload_n hX (pc := 0) dX8_free_0 0 rfl ?_
  refine g_get hX (pc := 1) fcX8 0 rfl 1 (by decide) q897 rfl (v := .ref (sr 1)) rfl dX8_free_1 ?_
  refine g_iload_n hX (pc := 4) dX8_free_4 1 rfl ?_
  refine g_iald hX (pc := 5) (sp_mem (i := 2) rfl) (v := f1 ky) (vp_in_nI (by omega) (by omega)) (by rw [nI_clamp (by omega)]) dX8_free_5 ?_
  refine g_iload_n hX (pc := 6) dX8_free_6 2 rfl ?_
  refine g_icmp_eq hX (pc := 7) (tgt := 12) dX8_free_7 rfl (fun c1 => ?_) (fun c1 => ?_)
  · refine g_aload_n hX (pc := 12) dX8_free_12 0 rfl ?_
    refine g_get hX (pc := 13) fcX8 0 rfl 1 (by decide) q897 rfl (v := .ref (sr 1)) rfl dX8_free_13 ?_
    refine g_iload_n hX (pc := 16) dX8_free_16 1 rfl ?_
    refine g_iconst hX (pc := 17) (v := (-1)) dX8_free_17 (by decide) ?_
    refine g_iast hX (pc := 18) (f1 := (upd f1 ky (-1))) (cs1 := [[(a, ob 7 [.ref (sr 0), .ref (sr 1), .ref (sr 2), .ref (sr 3), .ref (sr 4), .ref (sr 5), .int (S 6 0)])], [(sr 0, iA (aC E 0) 4 f0)], [(sr 1, iA (aC E 0) 4 (upd f1 ky (-1)))], [(sr 2, iA (aC E 0) 4 f2)], [(sr 3, iA (aC E 0) 4 f3)], [(sr 4, iA (aC E 0) 4 f4)], [(sr 5, iA (aC E 0) 4 f5)]]) 2 rfl (vp_in_nI (by omega) (by omega)) (by rw [nI_clamp (by omega)]) rfl dX8_free_18 ?_
    refine g_aload_n hX (pc := 19) dX8_free_19 0 rfl ?_
    refine g_get hX (pc := 20) fcX8 0 rfl 3 (by decide) q899 rfl (v := .ref (sr 3)) rfl dX8_free_20 ?_
    refine g_iload_n hX (pc := 23) dX8_free_23 1 rfl ?_
    refine g_iconst hX (pc := 24) (v := (-1)) dX8_free_24 (by decide) ?_
    refine g_iast hX (pc := 25) (f1 := (upd f3 ky (-1))) (cs1 := [[(a, ob 7 [.ref (sr 0), .ref (sr 1), .ref (sr 2), .ref (sr 3), .ref (sr 4), .ref (sr 5), .int (S 6 0)])], [(sr 0, iA (aC E 0) 4 f0)], [(sr 1, iA (aC E 0) 4 (upd f1 ky (-1)))], [(sr 2, iA (aC E 0) 4 f2)], [(sr 3, iA (aC E 0) 4 (upd f3 ky (-1)))], [(sr 4, iA (aC E 0) 4 f4)], [(sr 5, iA (aC E 0) 4 f5)]]) 4 rfl (vp_in_nI (by omega) (by omega)) (by rw [nI_clamp (by omega)]) rfl dX8_free_25 ?_
    refine g_iconst hX (pc := 26) (v := 1) dX8_free_26 (by decide) ?_
    refine g_pk [0, 0, 0, 0, 0, 0, 0] rfl ?_
    refine g_fl (cs1 := [[(a, ob 7 [.ref (sr 0), .ref (sr 1), .ref (sr 2), .ref (sr 3), .ref (sr 4), .ref (sr 5), .int (S 6 0)]), (sr 0, iA (aC E 0) 4 f0), (sr 1, iA (aC E 0) 4 (upd f1 ky (-1))), (sr 2, iA (aC E 0) 4 f2), (sr 3, iA (aC E 0) 4 (upd f3 ky (-1))), (sr 4, iA (aC E 0) 4 f4), (sr 5, iA (aC E 0) 4 f5)]]) rfl ?_
    refine g_iret hX (pc := 27) hR ?_ (Nat.le_of_ble_eq_true rfl) (Nat.le_of_ble_eq_true rfl) dX8_free_27
    have e : sFree S ky c = (up2 (up2 S 1 ky (-1)) 3 ky (-1), 1) := by unfold sFree; rw [if_pos (by rw [← e1]; exact c1)]
    rw [e]
    exact ⟨_, IsSR.mk6 (s6_u3 (s6_u1 hS ky (-1)) ky (-1)) rfl, rfl, rfl⟩
  · refine g_iconst hX (pc := 10) (v := 0) dX8_free_10 (by decide) ?_
    refine g_pk [0, 0, 0, 0, 0, 0, 0] rfl ?_
    refine g_fl (cs1 := [[(a, ob 7 [.ref (sr 0), .ref (sr 1), .ref (sr 2), .ref (sr 3), .ref (sr 4), .ref (sr 5), .int (S 6 0)]), (sr 0, iA (aC E 0) 4 f0), (sr 1, iA (aC E 0) 4 f1), (sr 2, iA (aC E 0) 4 f2), (sr 3, iA (aC E 0) 4 f3), (sr 4, iA (aC E 0) 4 f4), (sr 5, iA (aC E 0) 4 f5)]]) rfl ?_
    refine g_iret hX (pc := 11) hR ?_ (Nat.le_of_ble_eq_true rfl) (Nat.le_of_ble_eq_true rfl) dX8_free_11
    have e : sFree S ky c = (S, 0) := by unfold sFree; rw [if_neg (by rw [← e1]; exact c1)]
    rw [e]
    exact ⟨_, IsSR.mk6 hS rfl, rfl, rfl⟩

set_option maxHeartbeats 4000000 in
theorem mt_Store_lock (E : EE) (l : Launch) (a : Nat) (sr : Nat → Nat) (S : PS) (w : va_W) (rq : Nat) (c : Nat) (kd : Nat) (ky : Nat) (ra : Int32) (rb : Int32) (rs : Int32) (st : Int32) (an : Int32) (sn : Int32) (hw : IsSR E a sr S w) (hk : (ky < 4)) : Mt E l yX8_lock cX8_lock 3 (some .int) 1 0 0 1 [.ref a, .ref rq] [w, [(rq, ob 10 [.int (nI c), .ref (aK E kd), .int (nI ky), .int ra, .int rb, .int rs, .int st, .int an, .int sn])]] (fun (v_ : Option Value) (cs_ : List va_W) => ∃ (w1 : va_W), IsSR E a sr (Prod.fst (sLock S ky (nI c) ra)) w1 ∧ v_ = some (.int (Prod.snd (sLock S ky (nI c) ra))) ∧ cs_ = [w1, [(rq, ob 10 [.int (nI c), .ref (aK E kd), .int (nI ky), .int ra, .int rb, .int rs, .int st, .int an, .int sn])]]) := by
  obtain ⟨f0, f1, f2, f3, f4, f5, hS, rfl⟩ := hw
  obtain ⟨e0, e1, e2, e3, e4, e5⟩ := hS ky hk
  refine Mt.of (by decide) (Nat.le_of_ble_eq_true rfl) (fun X hX hR hin => ?_)
  refine g_lv1 (lv1 := [(0, .ref a), (1, .ref rq)]) rfl ?_
  refine g_fl (cs1 := [[(a, ob 7 [.ref (sr 0), .ref (sr 1), .ref (sr 2), .ref (sr 3), .ref (sr 4), .ref (sr 5), .int (S 6 0)])], [(sr 0, iA (aC E 0) 4 f0)], [(sr 1, iA (aC E 0) 4 f1)], [(sr 2, iA (aC E 0) 4 f2)], [(sr 3, iA (aC E 0) 4 f3)], [(sr 4, iA (aC E 0) 4 f4)], [(sr 5, iA (aC E 0) 4 f5)], [(rq, ob 10 [.int (nI c), .ref (aK E kd), .int (nI ky), .int ra, .int rb, .int rs, .int st, .int an, .int sn])]]) rfl ?_
  refine g_aload_n hX (pc := 0) dX8_lock_0 1 rfl ?_
  refine g_getN hX (pc := 1) fcX12 7 rfl 2 (by decide) q998 rfl (v := .int (nI ky)) rfl dX8_lock_1 ?_
  refine g_istore_n hX (pc := 4) (lv1 := [(2, .int (nI ky)), (0, .ref a), (1, .ref rq)]) dX8_lock_4 (by decide) rfl ?_
  refine g_aload_n hX (pc := 5) dX8_lock_5 1 rfl ?_
  refine g_get hX (pc := 6) fcX8 0 rfl 1 (by decide) q897 rfl (v := .ref (sr 1)) rfl dX8_lock_6 ?_
  refine g_iload_n hX (pc := 9) dX8_lock_9 0 rfl ?_
  refine g_iald hX (pc := 10) (sp_mem (i := 2) rfl) (v := f1 ky) (vp_in_nI (by omega) (by omega)) (by rw [nI_clamp (by omega)]) dX8_lock_10 ?_
  refine g_iconst hX (pc := 11) (v := (-1)) dX8_lock_11 (by decide) ?_
  refine g_icmp_eq hX (pc := 12) (tgt := 30) dX8_lock_12 rfl (fun c1 => ?_) (fun c1 => ?_)
  · refine g_aload_n hX (pc := 30) dX8_lock_30 1 rfl ?_
    refine g_get hX (pc := 31) fcX8 0 rfl 2 (by decide) q898 rfl (v := .ref (sr 2)) rfl dX8_lock_31 ?_
    refine g_iload_n hX (pc := 34) dX8_lock_34 0 rfl ?_
    refine g_dup2_11 hX (pc := 35) dX8_lock_35 rfl rfl ?_
    refine g_iald hX (pc := 36) (sp_mem (i := 3) rfl) (v := f2 ky) (vp_in_nI (by omega) (by omega)) (by rw [nI_clamp (by omega)]) dX8_lock_36 ?_
    refine g_aload_n hX (pc := 37) dX8_lock_37 1 rfl ?_
    refine g_get hX (pc := 38) fcX8 0 rfl 1 (by decide) q897 rfl (v := .ref (sr 1)) rfl dX8_lock_38 ?_
    refine g_iload_n hX (pc := 41) dX8_lock_41 0 rfl ?_
    refine g_iald hX (pc := 42) (sp_mem (i := 2) rfl) (v := f1 ky) (vp_in_nI (by omega) (by omega)) (by rw [nI_clamp (by omega)]) dX8_lock_42 ?_
    refine g_iconst hX (pc := 43) (v := (-1)) dX8_lock_43 (by decide) ?_
    refine g_val (v := if (f1 ky) = (-1) then 1 else 0) (pcJ := 52) (st1 := [.int (f2 ky), .int (nI ky), .ref (sr 2)]) (fun hj2 => ?_) ?_
    · refine g_icmp_ne hX (pc := 44) (tgt := 51) dX8_lock_44 rfl (fun c3 => ?_) (fun c3 => ?_)
      · refine g_iconst hX (pc := 51) (v := 0) dX8_lock_51 (by decide) ?_
        exact hj2 _ (by rw [if_neg c3])
      · refine g_iconst hX (pc := 47) (v := 1) dX8_lock_47 (by decide) ?_
        refine g_goto hX (pc := 48) (tgt := 52) dX8_lock_48 rfl ?_
        exact hj2 _ (by rw [if_pos c3])
    refine g_iadd hX (pc := 52) dX8_lock_52 ?_
    refine g_eqi (sFen S ky) (by rw [sFen, e1, e2]) ?_
    refine g_iast hX (pc := 53) (f1 := (upd f2 ky (sFen S ky))) (cs1 := [[(a, ob 7 [.ref (sr 0), .ref (sr 1), .ref (sr 2), .ref (sr 3), .ref (sr 4), .ref (sr 5), .int (S 6 0)])], [(sr 0, iA (aC E 0) 4 f0)], [(sr 1, iA (aC E 0) 4 f1)], [(sr 2, iA (aC E 0) 4 (upd f2 ky (sFen S ky)))], [(sr 3, iA (aC E 0) 4 f3)], [(sr 4, iA (aC E 0) 4 f4)], [(sr 5, iA (aC E 0) 4 f5)], [(rq, ob 10 [.int (nI c), .ref (aK E kd), .int (nI ky), .int ra, .int rb, .int rs, .int st, .int an, .int sn])]]) 3 rfl (vp_in_nI (by omega) (by omega)) (by rw [nI_clamp (by omega)]) rfl dX8_lock_53 ?_
    refine g_aload_n hX (pc := 54) dX8_lock_54 1 rfl ?_
    refine g_get hX (pc := 55) fcX8 0 rfl 1 (by decide) q897 rfl (v := .ref (sr 1)) rfl dX8_lock_55 ?_
    refine g_iload_n hX (pc := 58) dX8_lock_58 0 rfl ?_
    refine g_aload_n hX (pc := 59) dX8_lock_59 2 rfl ?_
    refine g_getN hX (pc := 60) fcX12 7 rfl 0 (by decide) q989 rfl (v := .int (nI c)) rfl dX8_lock_60 ?_
    refine g_iast hX (pc := 63) (f1 := (upd f1 ky (nI c))) (cs1 := [[(a, ob 7 [.ref (sr 0), .ref (sr 1), .ref (sr 2), .ref (sr 3), .ref (sr 4), .ref (sr 5), .int (S 6 0)])], [(sr 0, iA (aC E 0) 4 f0)], [(sr 1, iA (aC E 0) 4 (upd f1 ky (nI c)))], [(sr 2, iA (aC E 0) 4 (upd f2 ky (sFen S ky)))], [(sr 3, iA (aC E 0) 4 f3)], [(sr 4, iA (aC E 0) 4 f4)], [(sr 5, iA (aC E 0) 4 f5)], [(rq, ob 10 [.int (nI c), .ref (aK E kd), .int (nI ky), .int ra, .int rb, .int rs, .int st, .int an, .int sn])]]) 2 rfl (vp_in_nI (by omega) (by omega)) (by rw [nI_clamp (by omega)]) rfl dX8_lock_63 ?_
    refine g_aload_n hX (pc := 64) dX8_lock_64 1 rfl ?_
    refine g_get hX (pc := 65) fcX8 0 rfl 3 (by decide) q899 rfl (v := .ref (sr 3)) rfl dX8_lock_65 ?_
    refine g_iload_n hX (pc := 68) dX8_lock_68 0 rfl ?_
    refine g_aload_n hX (pc := 69) dX8_lock_69 2 rfl ?_
    refine g_getN hX (pc := 70) fcX12 7 rfl 3 (by decide) q1002 rfl (v := .int ra) rfl dX8_lock_70 ?_
    refine g_val (v := if ra = 0 then (-1) else ((S 6 0) + ra)) (pcJ := 89) (st1 := [.int (nI ky), .ref (sr 3)]) (fun hj4 => ?_) ?_
    · refine g_if_ne hX (pc := 73) (tgt := 80) dX8_lock_73 rfl (fun c5 => ?_) (fun c5 => ?_)
      · refine g_aload_n hX (pc := 80) dX8_lock_80 1 rfl ?_
        refine g_get hX (pc := 81) fcX8 0 rfl 6 (by decide) q902 rfl (v := .int (S 6 0)) rfl dX8_lock_81 ?_
        refine g_aload_n hX (pc := 84) dX8_lock_84 2 rfl ?_
        refine g_getN hX (pc := 85) fcX12 7 rfl 3 (by decide) q1002 rfl (v := .int ra) rfl dX8_lock_85 ?_
        refine g_iadd hX (pc := 88) dX8_lock_88 ?_
        exact hj4 _ (by rw [if_neg c5])
      · refine g_iconst hX (pc := 76) (v := (-1)) dX8_lock_76 (by decide) ?_
        refine g_goto hX (pc := 77) (tgt := 89) dX8_lock_77 rfl ?_
        exact hj4 _ (by rw [if_pos c5])
    refine g_iast hX (pc := 89) (f1 := (upd f3 ky (if ra = 0 then (-1) else ((S 6 0) + ra)))) (cs1 := [[(a, ob 7 [.ref (sr 0), .ref (sr 1), .ref (sr 2), .ref (sr 3), .ref (sr 4), .ref (sr 5), .int (S 6 0)])], [(sr 0, iA (aC E 0) 4 f0)], [(sr 1, iA (aC E 0) 4 (upd f1 ky (nI c)))], [(sr 2, iA (aC E 0) 4 (upd f2 ky (sFen S ky)))], [(sr 3, iA (aC E 0) 4 (upd f3 ky (if ra = 0 then (-1) else ((S 6 0) + ra))))], [(sr 4, iA (aC E 0) 4 f4)], [(sr 5, iA (aC E 0) 4 f5)], [(rq, ob 10 [.int (nI c), .ref (aK E kd), .int (nI ky), .int ra, .int rb, .int rs, .int st, .int an, .int sn])]]) 4 rfl (vp_in_nI (by omega) (by omega)) (by rw [nI_clamp (by omega)]) rfl dX8_lock_89 ?_
    refine g_aload_n hX (pc := 90) dX8_lock_90 1 rfl ?_
    refine g_get hX (pc := 91) fcX8 0 rfl 2 (by decide) q898 rfl (v := .ref (sr 2)) rfl dX8_lock_91 ?_
    refine g_iload_n hX (pc := 94) dX8_lock_94 0 rfl ?_
    refine g_iald hX (pc := 95) (sp_mem (i := 3) rfl) (v := (sFen S ky)) (vp_in_nI (by omega) (by omega)) (by rw [nI_clamp (by omega)]; exact pk_us) dX8_lock_95 ?_
    refine g_pk [0, 0, 0, 0, 0, 0, 0] rfl ?_
    refine g_fl (cs1 := [[(a, ob 7 [.ref (sr 0), .ref (sr 1), .ref (sr 2), .ref (sr 3), .ref (sr 4), .ref (sr 5), .int (S 6 0)]), (sr 0, iA (aC E 0) 4 f0), (sr 1, iA (aC E 0) 4 (upd f1 ky (nI c))), (sr 2, iA (aC E 0) 4 (upd f2 ky (sFen S ky))), (sr 3, iA (aC E 0) 4 (upd f3 ky (if ra = 0 then (-1) else ((S 6 0) + ra)))), (sr 4, iA (aC E 0) 4 f4), (sr 5, iA (aC E 0) 4 f5)], [(rq, ob 10 [.int (nI c), .ref (aK E kd), .int (nI ky), .int ra, .int rb, .int rs, .int st, .int an, .int sn])]]) rfl ?_
    refine g_iret hX (pc := 96) hR ?_ (Nat.le_of_ble_eq_true rfl) (Nat.le_of_ble_eq_true rfl) dX8_lock_96
    have h6 := s6_u3 (s6_u1 (s6_u2 hS ky (sFen S ky)) ky (nI c)) ky (if ra = 0 then (-1) else S 6 0 + ra)
    rw [show sLock S ky (nI c) ra = (up2 (up2 (up2 S 2 ky (sFen S ky)) 1 ky (nI c)) 3 ky (if ra = 0 then (-1) else S 6 0 + ra), sFen S ky) from if_neg (by rw [← e1]; exact fun z => z.1 c1)]
    exact ⟨_, IsSR.mk6 h6 rfl, rfl, rfl⟩
  · refine g_aload_n hX (pc := 15) dX8_lock_15 1 rfl ?_
    refine g_get hX (pc := 16) fcX8 0 rfl 1 (by decide) q897 rfl (v := .ref (sr 1)) rfl dX8_lock_16 ?_
    refine g_iload_n hX (pc := 19) dX8_lock_19 0 rfl ?_
    refine g_iald hX (pc := 20) (sp_mem (i := 2) rfl) (v := f1 ky) (vp_in_nI (by omega) (by omega)) (by rw [nI_clamp (by omega)]) dX8_lock_20 ?_
    refine g_aload_n hX (pc := 21) dX8_lock_21 2 rfl ?_
    refine g_getN hX (pc := 22) fcX12 7 rfl 0 (by decide) q989 rfl (v := .int (nI c)) rfl dX8_lock_22 ?_
    refine g_icmp_eq hX (pc := 25) (tgt := 30) dX8_lock_25 rfl (fun c6 => ?_) (fun c6 => ?_)
    · refine g_aload_n hX (pc := 30) dX8_lock_30 1 rfl ?_
      refine g_get hX (pc := 31) fcX8 0 rfl 2 (by decide) q898 rfl (v := .ref (sr 2)) rfl dX8_lock_31 ?_
      refine g_iload_n hX (pc := 34) dX8_lock_34 0 rfl ?_
      refine g_dup2_11 hX (pc := 35) dX8_lock_35 rfl rfl ?_
      refine g_iald hX (pc := 36) (sp_mem (i := 3) rfl) (v := f2 ky) (vp_in_nI (by omega) (by omega)) (by rw [nI_clamp (by omega)]) dX8_lock_36 ?_
      refine g_aload_n hX (pc := 37) dX8_lock_37 1 rfl ?_
      refine g_get hX (pc := 38) fcX8 0 rfl 1 (by decide) q897 rfl (v := .ref (sr 1)) rfl dX8_lock_38 ?_
      refine g_iload_n hX (pc := 41) dX8_lock_41 0 rfl ?_
      refine g_iald hX (pc := 42) (sp_mem (i := 2) rfl) (v := f1 ky) (vp_in_nI (by omega) (by omega)) (by rw [nI_clamp (by omega)]) dX8_lock_42 ?_
      refine g_iconst hX (pc := 43) (v := (-1)) dX8_lock_43 (by decide) ?_
      refine g_val (v := if (f1 ky) = (-1) then 1 else 0) (pcJ := 52) (st1 := [.int (f2 ky), .int (nI ky), .ref (sr 2)]) (fun hj7 => ?_) ?_
      · refine g_icmp_ne hX (pc := 44) (tgt := 51) dX8_lock_44 rfl (fun c8 => ?_) (fun c8 => ?_)
        · refine g_iconst hX (pc := 51) (v := 0) dX8_lock_51 (by decide) ?_
          exact hj7 _ (by rw [if_neg c8])
        · refine g_iconst hX (pc := 47) (v := 1) dX8_lock_47 (by decide) ?_
          refine g_goto hX (pc := 48) (tgt := 52) dX8_lock_48 rfl ?_
          exact hj7 _ (by rw [if_pos c8])
      refine g_iadd hX (pc := 52) dX8_lock_52 ?_
      refine g_eqi (sFen S ky) (by rw [sFen, e1, e2]) ?_
      refine g_iast hX (pc := 53) (f1 := (upd f2 ky (sFen S ky))) (cs1 := [[(a, ob 7 [.ref (sr 0), .ref (sr 1), .ref (sr 2), .ref (sr 3), .ref (sr 4), .ref (sr 5), .int (S 6 0)])], [(sr 0, iA (aC E 0) 4 f0)], [(sr 1, iA (aC E 0) 4 f1)], [(sr 2, iA (aC E 0) 4 (upd f2 ky (sFen S ky)))], [(sr 3, iA (aC E 0) 4 f3)], [(sr 4, iA (aC E 0) 4 f4)], [(sr 5, iA (aC E 0) 4 f5)], [(rq, ob 10 [.int (nI c), .ref (aK E kd), .int (nI ky), .int ra, .int rb, .int rs, .int st, .int an, .int sn])]]) 3 rfl (vp_in_nI (by omega) (by omega)) (by rw [nI_clamp (by omega)]) rfl dX8_lock_53 ?_
      refine g_aload_n hX (pc := 54) dX8_lock_54 1 rfl ?_
      refine g_get hX (pc := 55) fcX8 0 rfl 1 (by decide) q897 rfl (v := .ref (sr 1)) rfl dX8_lock_55 ?_
      refine g_iload_n hX (pc := 58) dX8_lock_58 0 rfl ?_
      refine g_aload_n hX (pc := 59) dX8_lock_59 2 rfl ?_
      refine g_getN hX (pc := 60) fcX12 7 rfl 0 (by decide) q989 rfl (v := .int (nI c)) rfl dX8_lock_60 ?_
      refine g_iast hX (pc := 63) (f1 := (upd f1 ky (nI c))) (cs1 := [[(a, ob 7 [.ref (sr 0), .ref (sr 1), .ref (sr 2), .ref (sr 3), .ref (sr 4), .ref (sr 5), .int (S 6 0)])], [(sr 0, iA (aC E 0) 4 f0)], [(sr 1, iA (aC E 0) 4 (upd f1 ky (nI c)))], [(sr 2, iA (aC E 0) 4 (upd f2 ky (sFen S ky)))], [(sr 3, iA (aC E 0) 4 f3)], [(sr 4, iA (aC E 0) 4 f4)], [(sr 5, iA (aC E 0) 4 f5)], [(rq, ob 10 [.int (nI c), .ref (aK E kd), .int (nI ky), .int ra, .int rb, .int rs, .int st, .int an, .int sn])]]) 2 rfl (vp_in_nI (by omega) (by omega)) (by rw [nI_clamp (by omega)]) rfl dX8_lock_63 ?_
      refine g_aload_n hX (pc := 64) dX8_lock_64 1 rfl ?_
      refine g_get hX (pc := 65) fcX8 0 rfl 3 (by decide) q899 rfl (v := .ref (sr 3)) rfl dX8_lock_65 ?_
      refine g_iload_n hX (pc := 68) dX8_lock_68 0 rfl ?_
      refine g_aload_n hX (pc := 69) dX8_lock_69 2 rfl ?_
      refine g_getN hX (pc := 70) fcX12 7 rfl 3 (by decide) q1002 rfl (v := .int ra) rfl dX8_lock_70 ?_
      refine g_val (v := if ra = 0 then (-1) else ((S 6 0) + ra)) (pcJ := 89) (st1 := [.int (nI ky), .ref (sr 3)]) (fun hj9 => ?_) ?_
      · refine g_if_ne hX (pc := 73) (tgt := 80) dX8_lock_73 rfl (fun c10 => ?_) (fun c10 => ?_)
        · refine g_aload_n hX (pc := 80) dX8_lock_80 1 rfl ?_
          refine g_get hX (pc := 81) fcX8 0 rfl 6 (by decide) q902 rfl (v := .int (S 6 0)) rfl dX8_lock_81 ?_
          refine g_aload_n hX (pc := 84) dX8_lock_84 2 rfl ?_
          refine g_getN hX (pc := 85) fcX12 7 rfl 3 (by decide) q1002 rfl (v := .int ra) rfl dX8_lock_85 ?_
          refine g_iadd hX (pc := 88) dX8_lock_88 ?_
          exact hj9 _ (by rw [if_neg c10])
        · refine g_iconst hX (pc := 76) (v := (-1)) dX8_lock_76 (by decide) ?_
          refine g_goto hX (pc := 77) (tgt := 89) dX8_lock_77 rfl ?_
          exact hj9 _ (by rw [if_pos c10])
      refine g_iast hX (pc := 89) (f1 := (upd f3 ky (if ra = 0 then (-1) else ((S 6 0) + ra)))) (cs1 := [[(a, ob 7 [.ref (sr 0), .ref (sr 1), .ref (sr 2), .ref (sr 3), .ref (sr 4), .ref (sr 5), .int (S 6 0)])], [(sr 0, iA (aC E 0) 4 f0)], [(sr 1, iA (aC E 0) 4 (upd f1 ky (nI c)))], [(sr 2, iA (aC E 0) 4 (upd f2 ky (sFen S ky)))], [(sr 3, iA (aC E 0) 4 (upd f3 ky (if ra = 0 then (-1) else ((S 6 0) + ra))))], [(sr 4, iA (aC E 0) 4 f4)], [(sr 5, iA (aC E 0) 4 f5)], [(rq, ob 10 [.int (nI c), .ref (aK E kd), .int (nI ky), .int ra, .int rb, .int rs, .int st, .int an, .int sn])]]) 4 rfl (vp_in_nI (by omega) (by omega)) (by rw [nI_clamp (by omega)]) rfl dX8_lock_89 ?_
      refine g_aload_n hX (pc := 90) dX8_lock_90 1 rfl ?_
      refine g_get hX (pc := 91) fcX8 0 rfl 2 (by decide) q898 rfl (v := .ref (sr 2)) rfl dX8_lock_91 ?_
      refine g_iload_n hX (pc := 94) dX8_lock_94 0 rfl ?_
      refine g_iald hX (pc := 95) (sp_mem (i := 3) rfl) (v := (sFen S ky)) (vp_in_nI (by omega) (by omega)) (by rw [nI_clamp (by omega)]; exact pk_us) dX8_lock_95 ?_
      refine g_pk [0, 0, 0, 0, 0, 0, 0] rfl ?_
      refine g_fl (cs1 := [[(a, ob 7 [.ref (sr 0), .ref (sr 1), .ref (sr 2), .ref (sr 3), .ref (sr 4), .ref (sr 5), .int (S 6 0)]), (sr 0, iA (aC E 0) 4 f0), (sr 1, iA (aC E 0) 4 (upd f1 ky (nI c))), (sr 2, iA (aC E 0) 4 (upd f2 ky (sFen S ky))), (sr 3, iA (aC E 0) 4 (upd f3 ky (if ra = 0 then (-1) else ((S 6 0) + ra)))), (sr 4, iA (aC E 0) 4 f4), (sr 5, iA (aC E 0) 4 f5)], [(rq, ob 10 [.int (nI c), .ref (aK E kd), .int (nI ky), .int ra, .int rb, .int rs, .int st, .int an, .int sn])]]) rfl ?_
      refine g_iret hX (pc := 96) hR ?_ (Nat.le_of_ble_eq_true rfl) (Nat.le_of_ble_eq_true rfl) dX8_lock_96
      have h6 := s6_u3 (s6_u1 (s6_u2 hS ky (sFen S ky)) ky (nI c)) ky (if ra = 0 then (-1) else S 6 0 + ra)
      rw [show sLock S ky (nI c) ra = (up2 (up2 (up2 S 2 ky (sFen S ky)) 1 ky (nI c)) 3 ky (if ra = 0 then (-1) else S 6 0 + ra), sFen S ky) from if_neg (by rw [← e1]; exact fun z => z.2 c6)]
      exact ⟨_, IsSR.mk6 h6 rfl, rfl, rfl⟩
    · refine g_iconst hX (pc := 28) (v := 0) dX8_lock_28 (by decide) ?_
      refine g_pk [0, 0, 0, 0, 0, 0, 0] rfl ?_
      refine g_fl (cs1 := [[(a, ob 7 [.ref (sr 0), .ref (sr 1), .ref (sr 2), .ref (sr 3), .ref (sr 4), .ref (sr 5), .int (S 6 0)]), (sr 0, iA (aC E 0) 4 f0), (sr 1, iA (aC E 0) 4 f1), (sr 2, iA (aC E 0) 4 f2), (sr 3, iA (aC E 0) 4 f3), (sr 4, iA (aC E 0) 4 f4), (sr 5, iA (aC E 0) 4 f5)], [(rq, ob 10 [.int (nI c), .ref (aK E kd), .int (nI ky), .int ra, .int rb, .int rs, .int st, .int an, .int sn])]]) rfl ?_
      refine g_iret hX (pc := 29) hR ?_ (Nat.le_of_ble_eq_true rfl) (Nat.le_of_ble_eq_true rfl) dX8_lock_29
      rw [show sLock S ky (nI c) ra = (S, 0) from if_pos (by rw [← e1]; exact ⟨c1, c6⟩)]
      exact ⟨_, IsSR.mk6 hS rfl, rfl, rfl⟩

set_option maxHeartbeats 4000000 in
theorem mt_Store_pass (E : EE) (l : Launch) (a : Nat) (sr : Nat → Nat) (S : PS) (w : va_W) (m : Int32) (hw : IsSR E a sr S w) : Mt E l yX8_pass cX8_pass 3 (some .int) 1 0 0 1 [.ref a, .int m] [w] (fun (v_ : Option Value) (cs_ : List va_W) => ∃ (w1 : va_W), IsSR E a sr (Prod.fst (sPass S m)) w1 ∧ v_ = some (.int (Prod.snd (sPass S m))) ∧ cs_ = [w1]) := by
  obtain ⟨f0, f1, f2, f3, f4, f5, hS, rfl⟩ := hw
  refine Mt.of (by decide) (Nat.le_of_ble_eq_true rfl) (fun X hX hR hin => ?_)
  refine g_lv1 (lv1 := [(0, .ref a), (1, .int m)]) rfl ?_
  refine g_fl (cs1 := [[(a, ob 7 [.ref (sr 0), .ref (sr 1), .ref (sr 2), .ref (sr 3), .ref (sr 4), .ref (sr 5), .int (S 6 0)])], [(sr 0, iA (aC E 0) 4 f0)], [(sr 1, iA (aC E 0) 4 f1)], [(sr 2, iA (aC E 0) 4 f2)], [(sr 3, iA (aC E 0) 4 f3)], [(sr 4, iA (aC E 0) 4 f4)], [(sr 5, iA (aC E 0) 4 f5)]]) rfl ?_
  refine g_aload_n hX (pc := 0) dX8_pass_0 0 rfl ?_
  refine g_dup hX (pc := 1) dX8_pass_1 rfl ?_
  refine g_get hX (pc := 2) fcX8 0 rfl 6 (by decide) q902 rfl (v := .int (S 6 0)) rfl dX8_pass_2 ?_
  refine g_iload_n hX (pc := 5) dX8_pass_5 1 rfl ?_
  refine g_iadd hX (pc := 6) dX8_pass_6 ?_
  refine g_put hX (pc := 7) fcX8 0 (fs1 := [.ref (sr 0), .ref (sr 1), .ref (sr 2), .ref (sr 3), .ref (sr 4), .ref (sr 5), .int ((S 6 0) + m)]) (cs1 := [[(a, ob 7 [.ref (sr 0), .ref (sr 1), .ref (sr 2), .ref (sr 3), .ref (sr 4), .ref (sr 5), .int ((S 6 0) + m)])], [(sr 0, iA (aC E 0) 4 f0)], [(sr 1, iA (aC E 0) 4 f1)], [(sr 2, iA (aC E 0) 4 f2)], [(sr 3, iA (aC E 0) 4 f3)], [(sr 4, iA (aC E 0) 4 f4)], [(sr 5, iA (aC E 0) 4 f5)]]) rfl 6 (by decide) q902 rfl rfl rfl rfl (Nat.le_of_ble_eq_true rfl) rfl rfl dX8_pass_7 ?_
  refine g_iconst hX (pc := 10) (v := 0) dX8_pass_10 (by decide) ?_
  refine g_eqi (nI 0) (nI_0.symm) ?_
  refine g_istore_n hX (pc := 11) (lv1 := [(2, .int (nI 0)), (0, .ref a), (1, .int m)]) dX8_pass_11 (by decide) rfl ?_
  have lp1 : ∀ (F1 : Nat) (i : Nat) (g1 : Nat → Int32) (g3 : Nat → Int32), 4 - i < F1 → (i ≤ 4) → (∀ k, k < 4 → g1 k = (if k < i ∧ ¬ S 3 k = (-1) ∧ S 3 k ≤ S 6 0 + m then (-1) else S 1 k) ∧ g3 k = (if k < i ∧ ¬ S 3 k = (-1) ∧ S 3 k ≤ S 6 0 + m then (-1) else S 3 k)) → G E l X [[(a, ob 7 [.ref (sr 0), .ref (sr 1), .ref (sr 2), .ref (sr 3), .ref (sr 4), .ref (sr 5), .int (S 6 0 + m)])], [(sr 0, iA (aC E 0) 4 f0)], [(sr 1, iA (aC E 0) 4 g1)], [(sr 2, iA (aC E 0) 4 f2)], [(sr 3, iA (aC E 0) 4 g3)], [(sr 4, iA (aC E 0) 4 f4)], [(sr 5, iA (aC E 0) 4 f5)]] 0 0 12 [(2, .int (nI i)), (0, .ref a), (1, .int m)] [] := by
    intro F1
    induction F1 with
    | zero =>
      intro i g1 g3 hF hi hinv
      exact absurd hF (Nat.not_lt_zero _)
    | succ F1 ih1 =>
      intro i g1 g3 hF hi hinv
      refine g_iload_n hX (pc := 12) dX8_pass_12 0 rfl ?_
      refine g_iconst hX (pc := 13) (v := 4) dX8_pass_13 (by decide) ?_
      refine g_icmp_ge hX (pc := 14) (tgt := 60) dX8_pass_14 rfl (fun c2 => ?_) (fun c2 => ?_)
      · have hi4 : i = 4 := by
          have := (nI_leI (a := 4) (b := i) (by omega) (by omega)).mp c2
          omega
        refine g_aload_n hX (pc := 60) dX8_pass_60 1 rfl ?_
        refine g_get hX (pc := 61) fcX8 0 rfl 6 (by decide) q902 rfl (v := .int (S 6 0 + m)) rfl dX8_pass_61 ?_
        refine g_pk [0, 0, 0, 0, 0, 0, 0] rfl ?_
        refine g_fl (cs1 := [[(a, ob 7 [.ref (sr 0), .ref (sr 1), .ref (sr 2), .ref (sr 3), .ref (sr 4), .ref (sr 5), .int (S 6 0 + m)]), (sr 0, iA (aC E 0) 4 f0), (sr 1, iA (aC E 0) 4 g1), (sr 2, iA (aC E 0) 4 f2), (sr 3, iA (aC E 0) 4 g3), (sr 4, iA (aC E 0) 4 f4), (sr 5, iA (aC E 0) 4 f5)]]) rfl ?_
        refine g_iret hX (pc := 64) hR ?_ (by omega) (by omega) dX8_pass_64
        have h6 : S6 (sPass S m).1 f0 g1 f2 g3 f4 f5 := by
          intro k hk
          obtain ⟨e0, e1, e2, e3, e4, e5⟩ := hS k hk
          obtain ⟨x1, x3⟩ := hinv k hk
          have hki : k < i := by omega
          refine ⟨?_, ?_, ?_, ?_, ?_, ?_⟩ <;> simp [sPass, e0, e2, e4, e5, x1, x3, hki]
        exact ⟨_, IsSR.mk6 h6 (by simp [sPass]), rfl, rfl⟩
      · have hi3 : i < 4 := by
          have := mt (nI_leI (a := 4) (b := i) (by omega) (by omega)).mpr c2
          omega
        obtain ⟨x1, x3⟩ := hinv i hi3
        rw [if_neg (by omega)] at x1 x3
        refine g_aload_n hX (pc := 17) dX8_pass_17 1 rfl ?_
        refine g_get hX (pc := 18) fcX8 0 rfl 3 (by decide) q899 rfl (v := .ref (sr 3)) rfl dX8_pass_18 ?_
        refine g_iload_n hX (pc := 21) dX8_pass_21 0 rfl ?_
        refine g_iald hX (pc := 22) (sp_mem (i := 4) rfl) (v := g3 i) (vp_in_nI (by omega) (by omega)) (by rw [nI_clamp (by omega)]) dX8_pass_22 ?_
        refine g_iconst hX (pc := 23) (v := (-1)) dX8_pass_23 (by decide) ?_
        refine g_icmp_eq hX (pc := 24) (tgt := 54) dX8_pass_24 rfl (fun c3 => ?_) (fun c3 => ?_)
        · refine g_iinc hX (pc := 54) (v := nI (i + 1)) (lv1 := [(2, .int (nI (i + 1))), (0, .ref a), (1, .int m)]) dX8_pass_54 0 rfl (nI_1 _) (by decide) rfl ?_
          refine g_goto hX (pc := 57) (tgt := 12) dX8_pass_57 rfl ?_
          refine g_widen (kc1 := 0) (ks1 := 0) (by omega) (by omega) ?_
          exact ih1 (i + 1) g1 g3 (by omega) (by omega) (by
  intro k hk
  obtain ⟨y1, y3⟩ := hinv k hk
  by_cases hki : k = i
  · subst hki
    rw [if_neg (fun z => z.2.1 (by rw [← x3]; exact c3)), if_neg (fun z => z.2.1 (by rw [← x3]; exact c3))]
    exact ⟨x1, x3⟩
  · rw [y1, y3]
    have : (k < i + 1) ↔ (k < i) := by omega
    simp only [this, and_self])
        · refine g_aload_n hX (pc := 27) dX8_pass_27 1 rfl ?_
          refine g_get hX (pc := 28) fcX8 0 rfl 3 (by decide) q899 rfl (v := .ref (sr 3)) rfl dX8_pass_28 ?_
          refine g_iload_n hX (pc := 31) dX8_pass_31 0 rfl ?_
          refine g_iald hX (pc := 32) (sp_mem (i := 4) rfl) (v := g3 i) (vp_in_nI (by omega) (by omega)) (by rw [nI_clamp (by omega)]) dX8_pass_32 ?_
          refine g_aload_n hX (pc := 33) dX8_pass_33 1 rfl ?_
          refine g_get hX (pc := 34) fcX8 0 rfl 6 (by decide) q902 rfl (v := .int (S 6 0 + m)) rfl dX8_pass_34 ?_
          refine g_icmp_gt hX (pc := 37) (tgt := 54) dX8_pass_37 rfl (fun c4 => ?_) (fun c4 => ?_)
          · refine g_iinc hX (pc := 54) (v := nI (i + 1)) (lv1 := [(2, .int (nI (i + 1))), (0, .ref a), (1, .int m)]) dX8_pass_54 0 rfl (nI_1 _) (by decide) rfl ?_
            refine g_goto hX (pc := 57) (tgt := 12) dX8_pass_57 rfl ?_
            refine g_widen (kc1 := 0) (ks1 := 0) (by omega) (by omega) ?_
            exact ih1 (i + 1) g1 g3 (by omega) (by omega) (by
  intro k hk
  obtain ⟨y1, y3⟩ := hinv k hk
  by_cases hki : k = i
  · subst hki
    rw [if_neg (fun z => absurd z.2.2 (Int32.not_le.mpr (by rw [← x3]; exact c4))), if_neg (fun z => absurd z.2.2 (Int32.not_le.mpr (by rw [← x3]; exact c4)))]
    exact ⟨x1, x3⟩
  · rw [y1, y3]
    have : (k < i + 1) ↔ (k < i) := by omega
    simp only [this, and_self])
          · refine g_aload_n hX (pc := 40) dX8_pass_40 1 rfl ?_
            refine g_get hX (pc := 41) fcX8 0 rfl 1 (by decide) q897 rfl (v := .ref (sr 1)) rfl dX8_pass_41 ?_
            refine g_iload_n hX (pc := 44) dX8_pass_44 0 rfl ?_
            refine g_iconst hX (pc := 45) (v := (-1)) dX8_pass_45 (by decide) ?_
            refine g_iast hX (pc := 46) (f1 := (upd g1 i (-1))) (cs1 := [[(a, ob 7 [.ref (sr 0), .ref (sr 1), .ref (sr 2), .ref (sr 3), .ref (sr 4), .ref (sr 5), .int (S 6 0 + m)])], [(sr 0, iA (aC E 0) 4 f0)], [(sr 1, iA (aC E 0) 4 (upd g1 i (-1)))], [(sr 2, iA (aC E 0) 4 f2)], [(sr 3, iA (aC E 0) 4 g3)], [(sr 4, iA (aC E 0) 4 f4)], [(sr 5, iA (aC E 0) 4 f5)]]) 2 rfl (vp_in_nI (by omega) (by omega)) (by rw [nI_clamp (by omega)]) rfl dX8_pass_46 ?_
            refine g_aload_n hX (pc := 47) dX8_pass_47 1 rfl ?_
            refine g_get hX (pc := 48) fcX8 0 rfl 3 (by decide) q899 rfl (v := .ref (sr 3)) rfl dX8_pass_48 ?_
            refine g_iload_n hX (pc := 51) dX8_pass_51 0 rfl ?_
            refine g_iconst hX (pc := 52) (v := (-1)) dX8_pass_52 (by decide) ?_
            refine g_iast hX (pc := 53) (f1 := (upd g3 i (-1))) (cs1 := [[(a, ob 7 [.ref (sr 0), .ref (sr 1), .ref (sr 2), .ref (sr 3), .ref (sr 4), .ref (sr 5), .int (S 6 0 + m)])], [(sr 0, iA (aC E 0) 4 f0)], [(sr 1, iA (aC E 0) 4 (upd g1 i (-1)))], [(sr 2, iA (aC E 0) 4 f2)], [(sr 3, iA (aC E 0) 4 (upd g3 i (-1)))], [(sr 4, iA (aC E 0) 4 f4)], [(sr 5, iA (aC E 0) 4 f5)]]) 4 rfl (vp_in_nI (by omega) (by omega)) (by rw [nI_clamp (by omega)]) rfl dX8_pass_53 ?_
            refine g_iinc hX (pc := 54) (v := nI (i + 1)) (lv1 := [(2, .int (nI (i + 1))), (0, .ref a), (1, .int m)]) dX8_pass_54 0 rfl (nI_1 _) (by decide) rfl ?_
            refine g_goto hX (pc := 57) (tgt := 12) dX8_pass_57 rfl ?_
            refine g_widen (kc1 := 0) (ks1 := 0) (by omega) (by omega) ?_
            exact ih1 (i + 1) (upd g1 i (-1)) (upd g3 i (-1)) (by omega) (by omega) (by
  intro k hk
  obtain ⟨y1, y3⟩ := hinv k hk
  by_cases hki : k = i
  · subst hki
    have z1 : ¬ S 3 k = (-1) := by rw [← x3]; exact c3
    have z2 : S 3 k ≤ S 6 0 + m := by rw [← x3]; exact Int32.not_lt.mp c4
    rw [if_pos ⟨by omega, z1, z2⟩, if_pos ⟨by omega, z1, z2⟩]
    exact ⟨pk_us, pk_us⟩
  · rw [pk_un hki, pk_un hki, y1, y3]
    have : (k < i + 1) ↔ (k < i) := by omega
    simp only [this, and_self])
  refine g_widen (kc1 := 0) (ks1 := 0) (by omega) (by omega) ?_
  exact lp1 ((4 - 0) + 1) 0 f1 f3 (Nat.lt_succ_self _) (by omega) (fun k hk => by rw [if_neg (by omega), if_neg (by omega)]; exact ⟨(hS k hk).2.1, (hS k hk).2.2.2.1⟩)

set_option maxHeartbeats 4000000 in
theorem mt_Store_do (E : EE) (l : Launch) (a : Nat) (sr : Nat → Nat) (S : PS) (w : va_W) (rq : Nat) (c : Nat) (kd : Nat) (ky : Nat) (ra : Int32) (rb : Int32) (rs : Int32) (st : Int32) (an : Int32) (sn : Int32) (hw : IsSR E a sr S w) (hkd : (kd < 6)) (hc : (c < 4)) (hk : (ky < 4)) : Mt E l yX8_does_2 cX8_does_2 3 (some .int) 2 0 0 23 [.ref a, .ref rq] [w, [(rq, ob 10 [.int (nI c), .ref (aK E kd), .int (nI ky), .int ra, .int rb, .int rs, .int st, .int an, .int sn])]] (fun (v_ : Option Value) (cs_ : List va_W) => ∃ (w1 : va_W), IsSR E a sr (Prod.fst (sDo S (nI c) kd ky ra rb)) w1 ∧ v_ = some (.int (Prod.snd (sDo S (nI c) kd ky ra rb))) ∧ cs_ = [w1, [(rq, ob 10 [.int (nI c), .ref (aK E kd), .int (nI ky), .int ra, .int rb, .int rs, .int st, .int an, .int sn])]]) := by
  refine Mt.of (by decide) (Nat.le_of_ble_eq_true rfl) (fun X hX hR hin => ?_)
  refine g_lv1 (lv1 := [(0, .ref a), (1, .ref rq)]) rfl ?_
  refine g_aload_n hX (pc := 0) dX8_does_2_0 1 rfl ?_
  refine g_getN hX (pc := 1) fcX12 1 rfl 1 (by decide) q993 rfl (v := .ref (aK E kd)) rfl dX8_does_2_1 ?_
  refine g_callU hX (pc := 4) (C := "Quorumspire$Kind") (owner := "java/lang/Enum") (x := ⟨"Quorumspire$Kind", "ordinal", "()I"⟩) (y := yJ11_ordinal) (n := 0) q804 q803 q810 q91 q809 rfl ⟨by decide +kernel, by decide +kernel, by decide +kernel⟩ (mt_ordK E l kd (by omega)) q1155 (fun H locs hP hS => va_recvE (cx_gs hX).1 (i := kd) (by omega) hS) [] rfl rfl rfl (Nat.le_of_ble_eq_true rfl) (Nat.le_of_ble_eq_true rfl) (Nat.le_of_ble_eq_true rfl) (Nat.le_of_ble_eq_true rfl) (Nat.le_of_ble_eq_true rfl) dX8_does_2_4 (fun v w1 hp => ?_)
  obtain ⟨rfl, rfl⟩ := hp
  refine g_nrm (cs1 := [w, [(rq, ob 10 [.int (nI c), .ref (aK E kd), .int (nI ky), .int ra, .int rb, .int rs, .int st, .int an, .int sn])]]) (st1 := [.int (nI kd)]) rfl rfl ?_
  rcases (show kd = 3 ∨ kd = 4 ∨ kd = 5 ∨ (kd < 3 ∨ 5 < kd) by omega) with h7_3 | h7_4 | h7_5 | h7_d
  · refine g_tableIn hX (pc := 7) (tgt := 32) (off := 25) dX8_does_2_7 (by rw [h7_3]; decide) (by rw [h7_3]; decide) (by rw [h7_3]; rfl) rfl ?_
    refine g_aload_n hX (pc := 32) dX8_does_2_32 0 rfl ?_
    refine g_aload_n hX (pc := 33) dX8_does_2_33 1 rfl ?_
    obtain ⟨fs1, hm2⟩ := IsSR.head hw
    refine g_callV hX (pc := 34) kX8_lock (mt_Store_lock E l a sr S w rq c kd ky ra rb rs st an sn hw (hk)) q1156 fcX8 (sp_in 0 rfl hm2) [0, 0] rfl rfl rfl (Nat.le_of_ble_eq_true rfl) (Nat.le_of_ble_eq_true rfl) (Nat.le_of_ble_eq_true rfl) (Nat.le_of_ble_eq_true rfl) (Nat.le_of_ble_eq_true rfl) dX8_does_2_34 (fun v w1 hp => ?_)
    obtain ⟨w13, h4, rfl, rfl⟩ := hp
    refine g_nrm (cs1 := [w13, [(rq, ob 10 [.int (nI c), .ref (aK E kd), .int (nI ky), .int ra, .int rb, .int rs, .int st, .int an, .int sn])]]) (st1 := [.int (Prod.snd (sLock S ky (nI c) ra))]) rfl rfl ?_
    refine g_iret hX (pc := 37) hR ?_ (Nat.le_of_ble_eq_true rfl) (Nat.le_of_ble_eq_true rfl) dX8_does_2_37
    rw [show sDo S (nI c) kd ky ra rb = sLock S ky (nI c) ra from if_pos h7_3]
    exact ⟨_, h4, rfl, rfl⟩
  · refine g_tableIn hX (pc := 7) (tgt := 38) (off := 31) dX8_does_2_7 (by rw [h7_4]; decide) (by rw [h7_4]; decide) (by rw [h7_4]; rfl) rfl ?_
    refine g_aload_n hX (pc := 38) dX8_does_2_38 0 rfl ?_
    refine g_aload_n hX (pc := 39) dX8_does_2_39 1 rfl ?_
    refine g_getN hX (pc := 40) fcX12 1 rfl 2 (by decide) q998 rfl (v := .int (nI ky)) rfl dX8_does_2_40 ?_
    refine g_aload_n hX (pc := 43) dX8_does_2_43 1 rfl ?_
    refine g_getN hX (pc := 44) fcX12 1 rfl 0 (by decide) q989 rfl (v := .int (nI c)) rfl dX8_does_2_44 ?_
    obtain ⟨fs5, hm6⟩ := IsSR.head hw
    refine g_callV hX (pc := 47) kX8_free (mt_Store_free E l a sr S w ky (nI c) hw (hk)) q1160 fcX8 (sp_in 0 rfl hm6) [0] rfl rfl rfl (Nat.le_of_ble_eq_true rfl) (Nat.le_of_ble_eq_true rfl) (Nat.le_of_ble_eq_true rfl) (Nat.le_of_ble_eq_true rfl) (Nat.le_of_ble_eq_true rfl) dX8_does_2_47 (fun v w1 hp => ?_)
    obtain ⟨w17, h8, rfl, rfl⟩ := hp
    refine g_nrm (cs1 := [w17, [(rq, ob 10 [.int (nI c), .ref (aK E kd), .int (nI ky), .int ra, .int rb, .int rs, .int st, .int an, .int sn])]]) (st1 := [.int (Prod.snd (sFree S ky (nI c)))]) rfl rfl ?_
    refine g_iret hX (pc := 50) hR ?_ (Nat.le_of_ble_eq_true rfl) (Nat.le_of_ble_eq_true rfl) dX8_does_2_50
    rw [show sDo S (nI c) kd ky ra rb = sFree S ky (nI c) from by unfold sDo; rw [if_neg (by omega), if_pos h7_4]]
    exact ⟨_, h8, rfl, rfl⟩
  · refine g_tableIn hX (pc := 7) (tgt := 51) (off := 44) dX8_does_2_7 (by rw [h7_5]; decide) (by rw [h7_5]; decide) (by rw [h7_5]; rfl) rfl ?_
    refine g_aload_n hX (pc := 51) dX8_does_2_51 0 rfl ?_
    refine g_aload_n hX (pc := 52) dX8_does_2_52 1 rfl ?_
    refine g_getN hX (pc := 53) fcX12 1 rfl 3 (by decide) q1002 rfl (v := .int ra) rfl dX8_does_2_53 ?_
    obtain ⟨fs9, hm10⟩ := IsSR.head hw
    refine g_callV hX (pc := 56) kX8_pass (mt_Store_pass E l a sr S w ra hw) q1164 fcX8 (sp_in 0 rfl hm10) [0] rfl rfl rfl (Nat.le_of_ble_eq_true rfl) (Nat.le_of_ble_eq_true rfl) (Nat.le_of_ble_eq_true rfl) (Nat.le_of_ble_eq_true rfl) (Nat.le_of_ble_eq_true rfl) dX8_does_2_56 (fun v w1 hp => ?_)
    obtain ⟨w111, h12, rfl, rfl⟩ := hp
    refine g_nrm (cs1 := [w111, [(rq, ob 10 [.int (nI c), .ref (aK E kd), .int (nI ky), .int ra, .int rb, .int rs, .int st, .int an, .int sn])]]) (st1 := [.int (Prod.snd (sPass S ra))]) rfl rfl ?_
    refine g_iret hX (pc := 59) hR ?_ (Nat.le_of_ble_eq_true rfl) (Nat.le_of_ble_eq_true rfl) dX8_does_2_59
    rw [show sDo S (nI c) kd ky ra rb = sPass S ra from by unfold sDo; rw [if_neg (by omega), if_neg (by omega), if_pos h7_5]]
    exact ⟨_, h12, rfl, rfl⟩
  · obtain ⟨f13, f14, f15, f16, f17, f18, hS19, rfl⟩ := hw
    refine g_fl (cs1 := [[(a, ob 7 [.ref (sr 0), .ref (sr 1), .ref (sr 2), .ref (sr 3), .ref (sr 4), .ref (sr 5), .int (S 6 0)])], [(sr 0, iA (aC E 0) 4 f13)], [(sr 1, iA (aC E 0) 4 f14)], [(sr 2, iA (aC E 0) 4 f15)], [(sr 3, iA (aC E 0) 4 f16)], [(sr 4, iA (aC E 0) 4 f17)], [(sr 5, iA (aC E 0) 4 f18)], [(rq, ob 10 [.int (nI c), .ref (aK E kd), .int (nI ky), .int ra, .int rb, .int rs, .int st, .int an, .int sn])]]) rfl ?_
    obtain ⟨e0, e1, e2, e3, e4, e5⟩ := hS19 ky hk
    refine g_tableOut hX (pc := 7) (tgt := 60) dX8_does_2_7 (by rw [nI_toInt (by omega)]; omega) rfl ?_
    refine g_aload_n hX (pc := 60) dX8_does_2_60 0 rfl ?_
    refine g_get hX (pc := 61) fcX8 0 rfl 0 (by decide) q895 rfl (v := .ref (sr 0)) rfl dX8_does_2_61 ?_
    refine g_aload_n hX (pc := 64) dX8_does_2_64 1 rfl ?_
    refine g_getN hX (pc := 65) fcX12 7 rfl 2 (by decide) q998 rfl (v := .int (nI ky)) rfl dX8_does_2_65 ?_
    refine g_iald hX (pc := 68) (sp_mem (i := 1) rfl) (v := S 0 ky) (vp_in_nI (by omega) (by omega)) (by rw [nI_clamp (by omega)]; exact e0) dX8_does_2_68 ?_
    refine g_istore_n hX (pc := 69) (lv1 := [(2, .int (S 0 ky)), (0, .ref a), (1, .ref rq)]) dX8_does_2_69 (by decide) rfl ?_
    refine g_aload_n hX (pc := 70) dX8_does_2_70 1 rfl ?_
    refine g_get hX (pc := 71) fcX8 0 rfl 0 (by decide) q895 rfl (v := .ref (sr 0)) rfl dX8_does_2_71 ?_
    refine g_aload_n hX (pc := 74) dX8_does_2_74 2 rfl ?_
    refine g_getN hX (pc := 75) fcX12 7 rfl 2 (by decide) q998 rfl (v := .int (nI ky)) rfl dX8_does_2_75 ?_
    refine g_aload_n hX (pc := 78) dX8_does_2_78 2 rfl ?_
    refine g_iload_n hX (pc := 79) dX8_does_2_79 0 rfl ?_
    refine g_callV hX (pc := 80) kX12_behind (mt_Request_behind E l rq (nI c) kd (nI ky) ra rb rs st an sn (S 0 ky) (hkd)) q1168 fcX12 (sp_mem (i := 7) rfl) [7] rfl rfl rfl (Nat.le_of_ble_eq_true rfl) (Nat.le_of_ble_eq_true rfl) (Nat.le_of_ble_eq_true rfl) (Nat.le_of_ble_eq_true rfl) (Nat.le_of_ble_eq_true rfl) dX8_does_2_80 (fun v w1 hp => ?_)
    obtain ⟨rfl, rfl⟩ := hp
    refine g_nrm (cs1 := [[(rq, ob 10 [.int (nI c), .ref (aK E kd), .int (nI ky), .int ra, .int rb, .int rs, .int st, .int an, .int sn])], [(a, ob 7 [.ref (sr 0), .ref (sr 1), .ref (sr 2), .ref (sr 3), .ref (sr 4), .ref (sr 5), .int (S 6 0)])], [(sr 0, iA (aC E 0) 4 f13)], [(sr 1, iA (aC E 0) 4 f14)], [(sr 2, iA (aC E 0) 4 f15)], [(sr 3, iA (aC E 0) 4 f16)], [(sr 4, iA (aC E 0) 4 f17)], [(sr 5, iA (aC E 0) 4 f18)]]) (st1 := [.int (if kd = 0 then ra else if kd = 2 then (if (S 0 ky) = ra then rb else (S 0 ky)) else (S 0 ky)), .int (nI ky), .ref (sr 0)]) rfl rfl ?_
    refine g_eqi (rqBeh kd ra rb (S 0 ky)) (rfl) ?_
    refine g_iast hX (pc := 83) (f1 := (upd f13 ky (rqBeh kd ra rb (S 0 ky)))) (cs1 := [[(rq, ob 10 [.int (nI c), .ref (aK E kd), .int (nI ky), .int ra, .int rb, .int rs, .int st, .int an, .int sn])], [(a, ob 7 [.ref (sr 0), .ref (sr 1), .ref (sr 2), .ref (sr 3), .ref (sr 4), .ref (sr 5), .int (S 6 0)])], [(sr 0, iA (aC E 0) 4 (upd f13 ky (rqBeh kd ra rb (S 0 ky))))], [(sr 1, iA (aC E 0) 4 f14)], [(sr 2, iA (aC E 0) 4 f15)], [(sr 3, iA (aC E 0) 4 f16)], [(sr 4, iA (aC E 0) 4 f17)], [(sr 5, iA (aC E 0) 4 f18)]]) 2 rfl (vp_in_nI (by omega) (by omega)) (by rw [nI_clamp (by omega)]) rfl dX8_does_2_83 ?_
    refine g_aload_n hX (pc := 84) dX8_does_2_84 2 rfl ?_
    refine g_iload_n hX (pc := 85) dX8_does_2_85 0 rfl ?_
    refine g_callV hX (pc := 86) kX12_told (mt_Request_told E l rq (nI c) kd (nI ky) ra rb rs st an sn (S 0 ky) (hkd)) q1169 fcX12 (sp_mem (i := 0) rfl) [0] rfl rfl rfl (Nat.le_of_ble_eq_true rfl) (Nat.le_of_ble_eq_true rfl) (Nat.le_of_ble_eq_true rfl) (Nat.le_of_ble_eq_true rfl) (Nat.le_of_ble_eq_true rfl) dX8_does_2_86 (fun v w1 hp => ?_)
    obtain ⟨rfl, rfl⟩ := hp
    refine g_nrm (cs1 := [[(rq, ob 10 [.int (nI c), .ref (aK E kd), .int (nI ky), .int ra, .int rb, .int rs, .int st, .int an, .int sn])], [(a, ob 7 [.ref (sr 0), .ref (sr 1), .ref (sr 2), .ref (sr 3), .ref (sr 4), .ref (sr 5), .int (S 6 0)])], [(sr 0, iA (aC E 0) 4 (upd f13 ky (rqBeh kd ra rb (S 0 ky))))], [(sr 1, iA (aC E 0) 4 f14)], [(sr 2, iA (aC E 0) 4 f15)], [(sr 3, iA (aC E 0) 4 f16)], [(sr 4, iA (aC E 0) 4 f17)], [(sr 5, iA (aC E 0) 4 f18)]]) (st1 := [.int (if kd = 2 then (if (S 0 ky) = ra then 1 else 0) else (S 0 ky))]) rfl rfl ?_
    refine g_eqi (rqTold kd ra (S 0 ky)) (rfl) ?_
    refine g_pk [1, 1, 1, 1, 1, 1, 1] rfl ?_
    refine g_fl (cs1 := [[(a, ob 7 [.ref (sr 0), .ref (sr 1), .ref (sr 2), .ref (sr 3), .ref (sr 4), .ref (sr 5), .int (S 6 0)]), (sr 0, iA (aC E 0) 4 (upd f13 ky (rqBeh kd ra rb (S 0 ky)))), (sr 1, iA (aC E 0) 4 f14), (sr 2, iA (aC E 0) 4 f15), (sr 3, iA (aC E 0) 4 f16), (sr 4, iA (aC E 0) 4 f17), (sr 5, iA (aC E 0) 4 f18)], [(rq, ob 10 [.int (nI c), .ref (aK E kd), .int (nI ky), .int ra, .int rb, .int rs, .int st, .int an, .int sn])]]) rfl ?_
    refine g_iret hX (pc := 89) hR ?_ (Nat.le_of_ble_eq_true rfl) (Nat.le_of_ble_eq_true rfl) dX8_does_2_89
    refine ⟨_, ?_, ?_, rfl⟩
    · have e : sDo S (nI c) kd ky ra rb = sVal S kd ky ra rb := by unfold sDo; rw [if_neg (by omega), if_neg (by omega), if_neg (by omega)]
      rw [e]; exact IsSR.mk6 (s6_u0 hS19 ky _) rfl
    · rw [show sDo S (nI c) kd ky ra rb = sVal S kd ky ra rb by unfold sDo; rw [if_neg (by omega), if_neg (by omega), if_neg (by omega)]]; rfl

set_option maxHeartbeats 4000000 in
theorem mt_Store_does (E : EE) (l : Launch) (a : Nat) (sr : Nat → Nat) (S : PS) (w : va_W) (num : Int32) (rq : Nat) (c : Nat) (kd : Nat) (ky : Nat) (ra : Int32) (rb : Int32) (rs : Int32) (st : Int32) (an : Int32) (sn : Int32) (hw : IsSR E a sr S w) (hkd : (kd < 6)) (hc : (c < 4)) (hk : (ky < 4)) : Mt E l yX8_does cX8_does 3 (some .int) 3 0 0 45 [.ref a, .int num, .ref rq] [w, [(rq, ob 10 [.int (nI c), .ref (aK E kd), .int (nI ky), .int ra, .int rb, .int rs, .int st, .int an, .int sn])]] (fun (v_ : Option Value) (cs_ : List va_W) => ∃ (w1 : va_W), IsSR E a sr (Prod.fst (sDoes S num c kd ky ra rb)) w1 ∧ v_ = some (.int (Prod.snd (sDoes S num c kd ky ra rb))) ∧ cs_ = [w1, [(rq, ob 10 [.int (nI c), .ref (aK E kd), .int (nI ky), .int ra, .int rb, .int rs, .int st, .int an, .int sn])]]) := by
  refine Mt.of (by decide) (Nat.le_of_ble_eq_true rfl) (fun X hX hR hin => ?_)
  refine g_lv1 (lv1 := [(0, .ref a), (1, .int num), (2, .ref rq)]) rfl ?_
  obtain ⟨f1, f2, f3, f4, f5, f6, hS7, rfl⟩ := hw
  refine g_fl (cs1 := [[(a, ob 7 [.ref (sr 0), .ref (sr 1), .ref (sr 2), .ref (sr 3), .ref (sr 4), .ref (sr 5), .int (S 6 0)])], [(sr 0, iA (aC E 0) 4 f1)], [(sr 1, iA (aC E 0) 4 f2)], [(sr 2, iA (aC E 0) 4 f3)], [(sr 3, iA (aC E 0) 4 f4)], [(sr 4, iA (aC E 0) 4 f5)], [(sr 5, iA (aC E 0) 4 f6)], [(rq, ob 10 [.int (nI c), .ref (aK E kd), .int (nI ky), .int ra, .int rb, .int rs, .int st, .int an, .int sn])]]) rfl ?_
  obtain ⟨y0, y1, y2, y3, y4, y5⟩ := hS7 c hc
  refine g_iload_n hX (pc := 0) dX8_does_0 1 rfl ?_
  refine g_aload_n hX (pc := 1) dX8_does_1 0 rfl ?_
  refine g_get hX (pc := 2) fcX8 0 rfl 4 (by decide) q900 rfl (v := .ref (sr 4)) rfl dX8_does_2 ?_
  refine g_aload_n hX (pc := 5) dX8_does_5 2 rfl ?_
  refine g_getN hX (pc := 6) fcX12 7 rfl 0 (by decide) q989 rfl (v := .int (nI c)) rfl dX8_does_6 ?_
  refine g_iald hX (pc := 9) (sp_mem (i := 5) rfl) (v := S 4 c) (vp_in_nI (by omega) (by omega)) (by rw [nI_clamp (by omega)]; exact y4) dX8_does_9 ?_
  refine g_icmp_le hX (pc := 10) (tgt := 47) dX8_does_10 rfl (fun c8 => ?_) (fun c8 => ?_)
  · refine g_iload_n hX (pc := 47) dX8_does_47 1 rfl ?_
    refine g_aload_n hX (pc := 48) dX8_does_48 0 rfl ?_
    refine g_get hX (pc := 49) fcX8 0 rfl 4 (by decide) q900 rfl (v := .ref (sr 4)) rfl dX8_does_49 ?_
    refine g_aload_n hX (pc := 52) dX8_does_52 2 rfl ?_
    refine g_getN hX (pc := 53) fcX12 7 rfl 0 (by decide) q989 rfl (v := .int (nI c)) rfl dX8_does_53 ?_
    refine g_iald hX (pc := 56) (sp_mem (i := 5) rfl) (v := S 4 c) (vp_in_nI (by omega) (by omega)) (by rw [nI_clamp (by omega)]; exact y4) dX8_does_56 ?_
    refine g_val (v := if num = (S 4 c) then (S 5 c) else (-1)) (pcJ := 73) (st1 := []) (fun hj9 => ?_) ?_
    · refine g_icmp_ne hX (pc := 57) (tgt := 72) dX8_does_57 rfl (fun c10 => ?_) (fun c10 => ?_)
      · refine g_iconst hX (pc := 72) (v := (-1)) dX8_does_72 (by decide) ?_
        exact hj9 _ (by rw [if_neg c10])
      · refine g_aload_n hX (pc := 60) dX8_does_60 0 rfl ?_
        refine g_get hX (pc := 61) fcX8 0 rfl 5 (by decide) q901 rfl (v := .ref (sr 5)) rfl dX8_does_61 ?_
        refine g_aload_n hX (pc := 64) dX8_does_64 2 rfl ?_
        refine g_getN hX (pc := 65) fcX12 7 rfl 0 (by decide) q989 rfl (v := .int (nI c)) rfl dX8_does_65 ?_
        refine g_iald hX (pc := 68) (sp_mem (i := 6) rfl) (v := S 5 c) (vp_in_nI (by omega) (by omega)) (by rw [nI_clamp (by omega)]; exact y5) dX8_does_68 ?_
        refine g_goto hX (pc := 69) (tgt := 73) dX8_does_69 rfl ?_
        exact hj9 _ (by rw [if_pos c10])
    refine g_pk [0, 0, 0, 0, 0, 0, 0] rfl ?_
    refine g_fl (cs1 := [[(a, ob 7 [.ref (sr 0), .ref (sr 1), .ref (sr 2), .ref (sr 3), .ref (sr 4), .ref (sr 5), .int (S 6 0)]), (sr 0, iA (aC E 0) 4 f1), (sr 1, iA (aC E 0) 4 f2), (sr 2, iA (aC E 0) 4 f3), (sr 3, iA (aC E 0) 4 f4), (sr 4, iA (aC E 0) 4 f5), (sr 5, iA (aC E 0) 4 f6)], [(rq, ob 10 [.int (nI c), .ref (aK E kd), .int (nI ky), .int ra, .int rb, .int rs, .int st, .int an, .int sn])]]) rfl ?_
    refine g_iret hX (pc := 73) hR ?_ (Nat.le_of_ble_eq_true rfl) (Nat.le_of_ble_eq_true rfl) dX8_does_73
    rw [show sDoes S num c kd ky ra rb = (S, if num = S 4 c then S 5 c else (-1)) from if_neg (Int32.not_lt.mpr c8)]
    exact ⟨_, IsSR.mk6 hS7 rfl, rfl, rfl⟩
  · refine g_aload_n hX (pc := 13) dX8_does_13 0 rfl ?_
    refine g_get hX (pc := 14) fcX8 0 rfl 4 (by decide) q900 rfl (v := .ref (sr 4)) rfl dX8_does_14 ?_
    refine g_aload_n hX (pc := 17) dX8_does_17 2 rfl ?_
    refine g_getN hX (pc := 18) fcX12 7 rfl 0 (by decide) q989 rfl (v := .int (nI c)) rfl dX8_does_18 ?_
    refine g_iload_n hX (pc := 21) dX8_does_21 1 rfl ?_
    refine g_iast hX (pc := 22) (f1 := (upd f5 c num)) (cs1 := [[(a, ob 7 [.ref (sr 0), .ref (sr 1), .ref (sr 2), .ref (sr 3), .ref (sr 4), .ref (sr 5), .int (S 6 0)])], [(sr 0, iA (aC E 0) 4 f1)], [(sr 1, iA (aC E 0) 4 f2)], [(sr 2, iA (aC E 0) 4 f3)], [(sr 3, iA (aC E 0) 4 f4)], [(sr 4, iA (aC E 0) 4 (upd f5 c num))], [(sr 5, iA (aC E 0) 4 f6)], [(rq, ob 10 [.int (nI c), .ref (aK E kd), .int (nI ky), .int ra, .int rb, .int rs, .int st, .int an, .int sn])]]) 5 rfl (vp_in_nI (by omega) (by omega)) (by rw [nI_clamp (by omega)]) rfl dX8_does_22 ?_
    refine g_aload_n hX (pc := 23) dX8_does_23 0 rfl ?_
    refine g_get hX (pc := 24) fcX8 0 rfl 5 (by decide) q901 rfl (v := .ref (sr 5)) rfl dX8_does_24 ?_
    refine g_aload_n hX (pc := 27) dX8_does_27 2 rfl ?_
    refine g_getN hX (pc := 28) fcX12 7 rfl 0 (by decide) q989 rfl (v := .int (nI c)) rfl dX8_does_28 ?_
    refine g_aload_n hX (pc := 31) dX8_does_31 0 rfl ?_
    refine g_pk [0, 0, 0, 0, 0, 0, 0] rfl ?_
    refine g_fl (cs1 := [[(a, ob 7 [.ref (sr 0), .ref (sr 1), .ref (sr 2), .ref (sr 3), .ref (sr 4), .ref (sr 5), .int (S 6 0)]), (sr 0, iA (aC E 0) 4 f1), (sr 1, iA (aC E 0) 4 f2), (sr 2, iA (aC E 0) 4 f3), (sr 3, iA (aC E 0) 4 f4), (sr 4, iA (aC E 0) 4 (upd f5 c num)), (sr 5, iA (aC E 0) 4 f6)], [(rq, ob 10 [.int (nI c), .ref (aK E kd), .int (nI ky), .int ra, .int rb, .int rs, .int st, .int an, .int sn])]]) rfl ?_
    have hp11 : IsSR E a sr (up2 S 4 c num) [(a, ob 7 [.ref (sr 0), .ref (sr 1), .ref (sr 2), .ref (sr 3), .ref (sr 4), .ref (sr 5), .int (S 6 0)]), (sr 0, iA (aC E 0) 4 f1), (sr 1, iA (aC E 0) 4 f2), (sr 2, iA (aC E 0) 4 f3), (sr 3, iA (aC E 0) 4 f4), (sr 4, iA (aC E 0) 4 (upd f5 c num)), (sr 5, iA (aC E 0) 4 f6)] := IsSR.mk6 (s6_u4 hS7 c num) rfl
    generalize [(a, ob 7 [.ref (sr 0), .ref (sr 1), .ref (sr 2), .ref (sr 3), .ref (sr 4), .ref (sr 5), .int (S 6 0)]), (sr 0, iA (aC E 0) 4 f1), (sr 1, iA (aC E 0) 4 f2), (sr 2, iA (aC E 0) 4 f3), (sr 3, iA (aC E 0) 4 f4), (sr 4, iA (aC E 0) 4 (upd f5 c num)), (sr 5, iA (aC E 0) 4 f6)] = wp12 at hp11 ⊢
    refine g_aload_n hX (pc := 32) dX8_does_32 2 rfl ?_
    obtain ⟨fs13, hm14⟩ := IsSR.head hp11
    refine g_callV hX (pc := 33) kX8_does_2 (mt_Store_do E l a sr (up2 S 4 c num) wp12 rq c kd ky ra rb rs st an sn hp11 (hkd) (hc) (hk)) q1151 fcX8 (sp_in 0 rfl hm14) [0, 0] rfl rfl rfl (Nat.le_of_ble_eq_true rfl) (Nat.le_of_ble_eq_true rfl) (Nat.le_of_ble_eq_true rfl) (Nat.le_of_ble_eq_true rfl) (Nat.le_of_ble_eq_true rfl) dX8_does_33 (fun v w1 hp => ?_)
    obtain ⟨w115, h16, rfl, rfl⟩ := hp
    refine g_nrm (cs1 := [w115, [(rq, ob 10 [.int (nI c), .ref (aK E kd), .int (nI ky), .int ra, .int rb, .int rs, .int st, .int an, .int sn])]]) (st1 := [.int (Prod.snd (sDo (up2 S 4 c num) (nI c) kd ky ra rb)), .int (nI c), .ref (sr 5)]) rfl rfl ?_
    obtain ⟨f17, f18, f19, f20, f21, f22, hS23, rfl⟩ := h16
    refine g_fl (cs1 := [[(a, ob 7 [.ref (sr 0), .ref (sr 1), .ref (sr 2), .ref (sr 3), .ref (sr 4), .ref (sr 5), .int ((Prod.fst (sDo (up2 S 4 c num) (nI c) kd ky ra rb)) 6 0)])], [(sr 0, iA (aC E 0) 4 f17)], [(sr 1, iA (aC E 0) 4 f18)], [(sr 2, iA (aC E 0) 4 f19)], [(sr 3, iA (aC E 0) 4 f20)], [(sr 4, iA (aC E 0) 4 f21)], [(sr 5, iA (aC E 0) 4 f22)], [(rq, ob 10 [.int (nI c), .ref (aK E kd), .int (nI ky), .int ra, .int rb, .int rs, .int st, .int an, .int sn])]]) rfl ?_
    refine g_iast hX (pc := 36) (f1 := (upd f22 c (Prod.snd (sDo (up2 S 4 c num) (nI c) kd ky ra rb)))) (cs1 := [[(a, ob 7 [.ref (sr 0), .ref (sr 1), .ref (sr 2), .ref (sr 3), .ref (sr 4), .ref (sr 5), .int ((Prod.fst (sDo (up2 S 4 c num) (nI c) kd ky ra rb)) 6 0)])], [(sr 0, iA (aC E 0) 4 f17)], [(sr 1, iA (aC E 0) 4 f18)], [(sr 2, iA (aC E 0) 4 f19)], [(sr 3, iA (aC E 0) 4 f20)], [(sr 4, iA (aC E 0) 4 f21)], [(sr 5, iA (aC E 0) 4 (upd f22 c (Prod.snd (sDo (up2 S 4 c num) (nI c) kd ky ra rb))))], [(rq, ob 10 [.int (nI c), .ref (aK E kd), .int (nI ky), .int ra, .int rb, .int rs, .int st, .int an, .int sn])]]) 6 rfl (vp_in_nI (by omega) (by omega)) (by rw [nI_clamp (by omega)]) rfl dX8_does_36 ?_
    refine g_aload_n hX (pc := 37) dX8_does_37 0 rfl ?_
    refine g_get hX (pc := 38) fcX8 0 rfl 5 (by decide) q901 rfl (v := .ref (sr 5)) rfl dX8_does_38 ?_
    refine g_aload_n hX (pc := 41) dX8_does_41 2 rfl ?_
    refine g_getN hX (pc := 42) fcX12 7 rfl 0 (by decide) q989 rfl (v := .int (nI c)) rfl dX8_does_42 ?_
    refine g_iald hX (pc := 45) (sp_mem (i := 6) rfl) (v := (Prod.snd (sDo (up2 S 4 c num) (nI c) kd ky ra rb))) (vp_in_nI (by omega) (by omega)) (by rw [nI_clamp (by omega)]; exact pk_us) dX8_does_45 ?_
    refine g_pk [0, 0, 0, 0, 0, 0, 0] rfl ?_
    refine g_fl (cs1 := [[(a, ob 7 [.ref (sr 0), .ref (sr 1), .ref (sr 2), .ref (sr 3), .ref (sr 4), .ref (sr 5), .int ((Prod.fst (sDo (up2 S 4 c num) (nI c) kd ky ra rb)) 6 0)]), (sr 0, iA (aC E 0) 4 f17), (sr 1, iA (aC E 0) 4 f18), (sr 2, iA (aC E 0) 4 f19), (sr 3, iA (aC E 0) 4 f20), (sr 4, iA (aC E 0) 4 f21), (sr 5, iA (aC E 0) 4 (upd f22 c (Prod.snd (sDo (up2 S 4 c num) (nI c) kd ky ra rb))))], [(rq, ob 10 [.int (nI c), .ref (aK E kd), .int (nI ky), .int ra, .int rb, .int rs, .int st, .int an, .int sn])]]) rfl ?_
    refine g_iret hX (pc := 46) hR ?_ (Nat.le_of_ble_eq_true rfl) (Nat.le_of_ble_eq_true rfl) dX8_does_46
    rw [show sDoes S num c kd ky ra rb = (up2 (Prod.fst (sDo (up2 S 4 c num) (nI c) kd ky ra rb)) 5 c (Prod.snd (sDo (up2 S 4 c num) (nI c) kd ky ra rb)), Prod.snd (sDo (up2 S 4 c num) (nI c) kd ky ra rb)) from if_pos (Int32.not_le.mp c8)]
    exact ⟨_, IsSR.mk6 (s6_u5 hS23 c _) rfl, rfl, rfl⟩

set_option maxHeartbeats 4000000 in
theorem mt_Store_copy (E : EE) (l : Launch) (a : Nat) (sr : Nat → Nat) (S : PS) (w : va_W) (hw : IsSR E a sr S w) : Mt E l yX8_copy cX8_copy 2 (some (.object "Quorumspire$Store")) 2 7 31 40 [.ref a] [w] (fun (v_ : Option Value) (cs_ : List va_W) => ∃ (q : Nat) (w1 : va_W), IsSt E q S w1 ∧ v_ = some (.ref q) ∧ cs_ = [w1, w]) := by
  refine Mt.of (by decide) (Nat.le_of_ble_eq_true rfl) (fun X hX hR hin => ?_)
  refine g_lv1 (lv1 := [(0, .ref a)]) rfl ?_
  refine g_new hX (pc := 0) fcX8 q889 q890 q83 (fs := [.null, .null, .null, .null, .null, .null, .int 0]) (fun j hj => by match j, hj with | 0, _ => rfl | 1, _ => rfl | 2, _ => rfl | 3, _ => rfl | 4, _ => rfl | 5, _ => rfl | 6, _ => rfl | j + 7, h => exact absurd h (by omega)) (Nat.le_of_ble_eq_true rfl) (Nat.le_of_ble_eq_true rfl) dX8_copy_0 (fun q1 => ?_)
  refine g_dup hX (pc := 3) dX8_copy_3 rfl ?_
  refine g_callI hX (pc := 4) kX8_init (mt_Store_init E l q1) q891 [0] rfl rfl rfl (Nat.le_of_ble_eq_true rfl) (Nat.le_of_ble_eq_true rfl) (Nat.le_of_ble_eq_true rfl) (Nat.le_of_ble_eq_true rfl) (Nat.le_of_ble_eq_true rfl) dX8_copy_4 (fun v w1 hp => ?_)
  obtain ⟨w2, h3, rfl, rfl⟩ := hp
  refine g_nrm (cs1 := [w2, w]) (st1 := [.ref q1]) rfl rfl ?_
  refine g_astore_n hX (pc := 7) (lv1 := [(1, .ref q1), (0, .ref a)]) dX8_copy_7 (by decide) rfl ?_
  obtain ⟨f4, f5, f6, f7, f8, f9, hS10, rfl⟩ := hw
  refine g_fl (cs1 := [w2, [(a, ob 7 [.ref (sr 0), .ref (sr 1), .ref (sr 2), .ref (sr 3), .ref (sr 4), .ref (sr 5), .int (S 6 0)])], [(sr 0, iA (aC E 0) 4 f4)], [(sr 1, iA (aC E 0) 4 f5)], [(sr 2, iA (aC E 0) 4 f6)], [(sr 3, iA (aC E 0) 4 f7)], [(sr 4, iA (aC E 0) 4 f8)], [(sr 5, iA (aC E 0) 4 f9)]]) rfl ?_
  obtain ⟨sr11, hr12⟩ := h3
  obtain ⟨f13, f14, f15, f16, f17, f18, hS19, rfl⟩ := hr12
  refine g_fl (cs1 := [[(q1, ob 7 [.ref (sr11 0), .ref (sr11 1), .ref (sr11 2), .ref (sr11 3), .ref (sr11 4), .ref (sr11 5), .int (S0 6 0)])], [(sr11 0, iA (aC E 0) 4 f13)], [(sr11 1, iA (aC E 0) 4 f14)], [(sr11 2, iA (aC E 0) 4 f15)], [(sr11 3, iA (aC E 0) 4 f16)], [(sr11 4, iA (aC E 0) 4 f17)], [(sr11 5, iA (aC E 0) 4 f18)], [(a, ob 7 [.ref (sr 0), .ref (sr 1), .ref (sr 2), .ref (sr 3), .ref (sr 4), .ref (sr 5), .int (S 6 0)])], [(sr 0, iA (aC E 0) 4 f4)], [(sr 1, iA (aC E 0) 4 f5)], [(sr 2, iA (aC E 0) 4 f6)], [(sr 3, iA (aC E 0) 4 f7)], [(sr 4, iA (aC E 0) 4 f8)], [(sr 5, iA (aC E 0) 4 f9)]]) rfl ?_
  refine g_aload_n hX (pc := 8) dX8_copy_8 1 rfl ?_
  refine g_get hX (pc := 9) fcX8 7 rfl 0 (by decide) q895 rfl (v := .ref (sr 0)) rfl dX8_copy_9 ?_
  refine g_iconst hX (pc := 12) (v := 0) dX8_copy_12 (by decide) ?_
  refine g_aload_n hX (pc := 13) dX8_copy_13 0 rfl ?_
  refine g_get hX (pc := 14) fcX8 0 rfl 0 (by decide) q895 rfl (v := .ref (sr11 0)) rfl dX8_copy_14 ?_
  refine g_iconst hX (pc := 17) (v := 0) dX8_copy_17 (by decide) ?_
  refine g_iconst hX (pc := 18) (v := 4) dX8_copy_18 (by decide) ?_
  refine g_copyi hX (pc := 19) q919 q_ac1 q_ac2 q_ac3 (sp_mem (i := 8) rfl) 1 (cs1 := [[(q1, ob 7 [.ref (sr11 0), .ref (sr11 1), .ref (sr11 2), .ref (sr11 3), .ref (sr11 4), .ref (sr11 5), .int (S0 6 0)])], [(sr11 0, iA (aC E 0) 4 (va_cpy f4 f13 0 0 4))], [(sr11 1, iA (aC E 0) 4 f14)], [(sr11 2, iA (aC E 0) 4 f15)], [(sr11 3, iA (aC E 0) 4 f16)], [(sr11 4, iA (aC E 0) 4 f17)], [(sr11 5, iA (aC E 0) 4 f18)], [(a, ob 7 [.ref (sr 0), .ref (sr 1), .ref (sr 2), .ref (sr 3), .ref (sr 4), .ref (sr 5), .int (S 6 0)])], [(sr 0, iA (aC E 0) 4 f4)], [(sr 1, iA (aC E 0) 4 f5)], [(sr 2, iA (aC E 0) 4 f6)], [(sr 3, iA (aC E 0) 4 f7)], [(sr 4, iA (aC E 0) 4 f8)], [(sr 5, iA (aC E 0) 4 f9)]]) rfl (by decide) (by decide) (by decide) (by decide) (by decide) (g1 := (va_cpy f4 f13 0 0 4)) rfl rfl (Nat.le_of_ble_eq_true rfl) (Nat.le_of_ble_eq_true rfl) dX8_copy_19 ?_
  refine g_aload_n hX (pc := 22) dX8_copy_22 1 rfl ?_
  refine g_get hX (pc := 23) fcX8 7 rfl 1 (by decide) q897 rfl (v := .ref (sr 1)) rfl dX8_copy_23 ?_
  refine g_iconst hX (pc := 26) (v := 0) dX8_copy_26 (by decide) ?_
  refine g_aload_n hX (pc := 27) dX8_copy_27 0 rfl ?_
  refine g_get hX (pc := 28) fcX8 0 rfl 1 (by decide) q897 rfl (v := .ref (sr11 1)) rfl dX8_copy_28 ?_
  refine g_iconst hX (pc := 31) (v := 0) dX8_copy_31 (by decide) ?_
  refine g_iconst hX (pc := 32) (v := 4) dX8_copy_32 (by decide) ?_
  refine g_copyi hX (pc := 33) q919 q_ac1 q_ac2 q_ac3 (sp_mem (i := 9) rfl) 2 (cs1 := [[(q1, ob 7 [.ref (sr11 0), .ref (sr11 1), .ref (sr11 2), .ref (sr11 3), .ref (sr11 4), .ref (sr11 5), .int (S0 6 0)])], [(sr11 0, iA (aC E 0) 4 (va_cpy f4 f13 0 0 4))], [(sr11 1, iA (aC E 0) 4 (va_cpy f5 f14 0 0 4))], [(sr11 2, iA (aC E 0) 4 f15)], [(sr11 3, iA (aC E 0) 4 f16)], [(sr11 4, iA (aC E 0) 4 f17)], [(sr11 5, iA (aC E 0) 4 f18)], [(a, ob 7 [.ref (sr 0), .ref (sr 1), .ref (sr 2), .ref (sr 3), .ref (sr 4), .ref (sr 5), .int (S 6 0)])], [(sr 0, iA (aC E 0) 4 f4)], [(sr 1, iA (aC E 0) 4 f5)], [(sr 2, iA (aC E 0) 4 f6)], [(sr 3, iA (aC E 0) 4 f7)], [(sr 4, iA (aC E 0) 4 f8)], [(sr 5, iA (aC E 0) 4 f9)]]) rfl (by decide) (by decide) (by decide) (by decide) (by decide) (g1 := (va_cpy f5 f14 0 0 4)) rfl rfl (Nat.le_of_ble_eq_true rfl) (Nat.le_of_ble_eq_true rfl) dX8_copy_33 ?_
  refine g_aload_n hX (pc := 36) dX8_copy_36 1 rfl ?_
  refine g_get hX (pc := 37) fcX8 7 rfl 2 (by decide) q898 rfl (v := .ref (sr 2)) rfl dX8_copy_37 ?_
  refine g_iconst hX (pc := 40) (v := 0) dX8_copy_40 (by decide) ?_
  refine g_aload_n hX (pc := 41) dX8_copy_41 0 rfl ?_
  refine g_get hX (pc := 42) fcX8 0 rfl 2 (by decide) q898 rfl (v := .ref (sr11 2)) rfl dX8_copy_42 ?_
  refine g_iconst hX (pc := 45) (v := 0) dX8_copy_45 (by decide) ?_
  refine g_iconst hX (pc := 46) (v := 4) dX8_copy_46 (by decide) ?_
  refine g_copyi hX (pc := 47) q919 q_ac1 q_ac2 q_ac3 (sp_mem (i := 10) rfl) 3 (cs1 := [[(q1, ob 7 [.ref (sr11 0), .ref (sr11 1), .ref (sr11 2), .ref (sr11 3), .ref (sr11 4), .ref (sr11 5), .int (S0 6 0)])], [(sr11 0, iA (aC E 0) 4 (va_cpy f4 f13 0 0 4))], [(sr11 1, iA (aC E 0) 4 (va_cpy f5 f14 0 0 4))], [(sr11 2, iA (aC E 0) 4 (va_cpy f6 f15 0 0 4))], [(sr11 3, iA (aC E 0) 4 f16)], [(sr11 4, iA (aC E 0) 4 f17)], [(sr11 5, iA (aC E 0) 4 f18)], [(a, ob 7 [.ref (sr 0), .ref (sr 1), .ref (sr 2), .ref (sr 3), .ref (sr 4), .ref (sr 5), .int (S 6 0)])], [(sr 0, iA (aC E 0) 4 f4)], [(sr 1, iA (aC E 0) 4 f5)], [(sr 2, iA (aC E 0) 4 f6)], [(sr 3, iA (aC E 0) 4 f7)], [(sr 4, iA (aC E 0) 4 f8)], [(sr 5, iA (aC E 0) 4 f9)]]) rfl (by decide) (by decide) (by decide) (by decide) (by decide) (g1 := (va_cpy f6 f15 0 0 4)) rfl rfl (Nat.le_of_ble_eq_true rfl) (Nat.le_of_ble_eq_true rfl) dX8_copy_47 ?_
  refine g_aload_n hX (pc := 50) dX8_copy_50 1 rfl ?_
  refine g_get hX (pc := 51) fcX8 7 rfl 3 (by decide) q899 rfl (v := .ref (sr 3)) rfl dX8_copy_51 ?_
  refine g_iconst hX (pc := 54) (v := 0) dX8_copy_54 (by decide) ?_
  refine g_aload_n hX (pc := 55) dX8_copy_55 0 rfl ?_
  refine g_get hX (pc := 56) fcX8 0 rfl 3 (by decide) q899 rfl (v := .ref (sr11 3)) rfl dX8_copy_56 ?_
  refine g_iconst hX (pc := 59) (v := 0) dX8_copy_59 (by decide) ?_
  refine g_iconst hX (pc := 60) (v := 4) dX8_copy_60 (by decide) ?_
  refine g_copyi hX (pc := 61) q919 q_ac1 q_ac2 q_ac3 (sp_mem (i := 11) rfl) 4 (cs1 := [[(q1, ob 7 [.ref (sr11 0), .ref (sr11 1), .ref (sr11 2), .ref (sr11 3), .ref (sr11 4), .ref (sr11 5), .int (S0 6 0)])], [(sr11 0, iA (aC E 0) 4 (va_cpy f4 f13 0 0 4))], [(sr11 1, iA (aC E 0) 4 (va_cpy f5 f14 0 0 4))], [(sr11 2, iA (aC E 0) 4 (va_cpy f6 f15 0 0 4))], [(sr11 3, iA (aC E 0) 4 (va_cpy f7 f16 0 0 4))], [(sr11 4, iA (aC E 0) 4 f17)], [(sr11 5, iA (aC E 0) 4 f18)], [(a, ob 7 [.ref (sr 0), .ref (sr 1), .ref (sr 2), .ref (sr 3), .ref (sr 4), .ref (sr 5), .int (S 6 0)])], [(sr 0, iA (aC E 0) 4 f4)], [(sr 1, iA (aC E 0) 4 f5)], [(sr 2, iA (aC E 0) 4 f6)], [(sr 3, iA (aC E 0) 4 f7)], [(sr 4, iA (aC E 0) 4 f8)], [(sr 5, iA (aC E 0) 4 f9)]]) rfl (by decide) (by decide) (by decide) (by decide) (by decide) (g1 := (va_cpy f7 f16 0 0 4)) rfl rfl (Nat.le_of_ble_eq_true rfl) (Nat.le_of_ble_eq_true rfl) dX8_copy_61 ?_
  refine g_aload_n hX (pc := 64) dX8_copy_64 1 rfl ?_
  refine g_get hX (pc := 65) fcX8 7 rfl 4 (by decide) q900 rfl (v := .ref (sr 4)) rfl dX8_copy_65 ?_
  refine g_iconst hX (pc := 68) (v := 0) dX8_copy_68 (by decide) ?_
  refine g_aload_n hX (pc := 69) dX8_copy_69 0 rfl ?_
  refine g_get hX (pc := 70) fcX8 0 rfl 4 (by decide) q900 rfl (v := .ref (sr11 4)) rfl dX8_copy_70 ?_
  refine g_iconst hX (pc := 73) (v := 0) dX8_copy_73 (by decide) ?_
  refine g_iconst hX (pc := 74) (v := 4) dX8_copy_74 (by decide) ?_
  refine g_copyi hX (pc := 75) q919 q_ac1 q_ac2 q_ac3 (sp_mem (i := 12) rfl) 5 (cs1 := [[(q1, ob 7 [.ref (sr11 0), .ref (sr11 1), .ref (sr11 2), .ref (sr11 3), .ref (sr11 4), .ref (sr11 5), .int (S0 6 0)])], [(sr11 0, iA (aC E 0) 4 (va_cpy f4 f13 0 0 4))], [(sr11 1, iA (aC E 0) 4 (va_cpy f5 f14 0 0 4))], [(sr11 2, iA (aC E 0) 4 (va_cpy f6 f15 0 0 4))], [(sr11 3, iA (aC E 0) 4 (va_cpy f7 f16 0 0 4))], [(sr11 4, iA (aC E 0) 4 (va_cpy f8 f17 0 0 4))], [(sr11 5, iA (aC E 0) 4 f18)], [(a, ob 7 [.ref (sr 0), .ref (sr 1), .ref (sr 2), .ref (sr 3), .ref (sr 4), .ref (sr 5), .int (S 6 0)])], [(sr 0, iA (aC E 0) 4 f4)], [(sr 1, iA (aC E 0) 4 f5)], [(sr 2, iA (aC E 0) 4 f6)], [(sr 3, iA (aC E 0) 4 f7)], [(sr 4, iA (aC E 0) 4 f8)], [(sr 5, iA (aC E 0) 4 f9)]]) rfl (by decide) (by decide) (by decide) (by decide) (by decide) (g1 := (va_cpy f8 f17 0 0 4)) rfl rfl (Nat.le_of_ble_eq_true rfl) (Nat.le_of_ble_eq_true rfl) dX8_copy_75 ?_
  refine g_aload_n hX (pc := 78) dX8_copy_78 1 rfl ?_
  refine g_get hX (pc := 79) fcX8 7 rfl 5 (by decide) q901 rfl (v := .ref (sr 5)) rfl dX8_copy_79 ?_
  refine g_iconst hX (pc := 82) (v := 0) dX8_copy_82 (by decide) ?_
  refine g_aload_n hX (pc := 83) dX8_copy_83 0 rfl ?_
  refine g_get hX (pc := 84) fcX8 0 rfl 5 (by decide) q901 rfl (v := .ref (sr11 5)) rfl dX8_copy_84 ?_
  refine g_iconst hX (pc := 87) (v := 0) dX8_copy_87 (by decide) ?_
  refine g_iconst hX (pc := 88) (v := 4) dX8_copy_88 (by decide) ?_
  refine g_copyi hX (pc := 89) q919 q_ac1 q_ac2 q_ac3 (sp_mem (i := 13) rfl) 6 (cs1 := [[(q1, ob 7 [.ref (sr11 0), .ref (sr11 1), .ref (sr11 2), .ref (sr11 3), .ref (sr11 4), .ref (sr11 5), .int (S0 6 0)])], [(sr11 0, iA (aC E 0) 4 (va_cpy f4 f13 0 0 4))], [(sr11 1, iA (aC E 0) 4 (va_cpy f5 f14 0 0 4))], [(sr11 2, iA (aC E 0) 4 (va_cpy f6 f15 0 0 4))], [(sr11 3, iA (aC E 0) 4 (va_cpy f7 f16 0 0 4))], [(sr11 4, iA (aC E 0) 4 (va_cpy f8 f17 0 0 4))], [(sr11 5, iA (aC E 0) 4 (va_cpy f9 f18 0 0 4))], [(a, ob 7 [.ref (sr 0), .ref (sr 1), .ref (sr 2), .ref (sr 3), .ref (sr 4), .ref (sr 5), .int (S 6 0)])], [(sr 0, iA (aC E 0) 4 f4)], [(sr 1, iA (aC E 0) 4 f5)], [(sr 2, iA (aC E 0) 4 f6)], [(sr 3, iA (aC E 0) 4 f7)], [(sr 4, iA (aC E 0) 4 f8)], [(sr 5, iA (aC E 0) 4 f9)]]) rfl (by decide) (by decide) (by decide) (by decide) (by decide) (g1 := (va_cpy f9 f18 0 0 4)) rfl rfl (Nat.le_of_ble_eq_true rfl) (Nat.le_of_ble_eq_true rfl) dX8_copy_89 ?_
  refine g_aload_n hX (pc := 92) dX8_copy_92 0 rfl ?_
  refine g_aload_n hX (pc := 93) dX8_copy_93 1 rfl ?_
  refine g_get hX (pc := 94) fcX8 7 rfl 6 (by decide) q902 rfl (v := .int (S 6 0)) rfl dX8_copy_94 ?_
  refine g_put hX (pc := 97) fcX8 0 (fs1 := [.ref (sr11 0), .ref (sr11 1), .ref (sr11 2), .ref (sr11 3), .ref (sr11 4), .ref (sr11 5), .int (S 6 0)]) (cs1 := [[(q1, ob 7 [.ref (sr11 0), .ref (sr11 1), .ref (sr11 2), .ref (sr11 3), .ref (sr11 4), .ref (sr11 5), .int (S 6 0)])], [(sr11 0, iA (aC E 0) 4 (va_cpy f4 f13 0 0 4))], [(sr11 1, iA (aC E 0) 4 (va_cpy f5 f14 0 0 4))], [(sr11 2, iA (aC E 0) 4 (va_cpy f6 f15 0 0 4))], [(sr11 3, iA (aC E 0) 4 (va_cpy f7 f16 0 0 4))], [(sr11 4, iA (aC E 0) 4 (va_cpy f8 f17 0 0 4))], [(sr11 5, iA (aC E 0) 4 (va_cpy f9 f18 0 0 4))], [(a, ob 7 [.ref (sr 0), .ref (sr 1), .ref (sr 2), .ref (sr 3), .ref (sr 4), .ref (sr 5), .int (S 6 0)])], [(sr 0, iA (aC E 0) 4 f4)], [(sr 1, iA (aC E 0) 4 f5)], [(sr 2, iA (aC E 0) 4 f6)], [(sr 3, iA (aC E 0) 4 f7)], [(sr 4, iA (aC E 0) 4 f8)], [(sr 5, iA (aC E 0) 4 f9)]]) rfl 6 (by decide) q902 rfl rfl rfl rfl (Nat.le_of_ble_eq_true rfl) rfl rfl dX8_copy_97 ?_
  refine g_aload_n hX (pc := 100) dX8_copy_100 0 rfl ?_
  refine g_pk [0, 0, 0, 0, 0, 0, 0] rfl ?_
  refine g_fl (cs1 := [[(q1, ob 7 [.ref (sr11 0), .ref (sr11 1), .ref (sr11 2), .ref (sr11 3), .ref (sr11 4), .ref (sr11 5), .int (S 6 0)]), (sr11 0, iA (aC E 0) 4 (va_cpy f4 f13 0 0 4)), (sr11 1, iA (aC E 0) 4 (va_cpy f5 f14 0 0 4)), (sr11 2, iA (aC E 0) 4 (va_cpy f6 f15 0 0 4)), (sr11 3, iA (aC E 0) 4 (va_cpy f7 f16 0 0 4)), (sr11 4, iA (aC E 0) 4 (va_cpy f8 f17 0 0 4)), (sr11 5, iA (aC E 0) 4 (va_cpy f9 f18 0 0 4))], [(a, ob 7 [.ref (sr 0), .ref (sr 1), .ref (sr 2), .ref (sr 3), .ref (sr 4), .ref (sr 5), .int (S 6 0)])], [(sr 0, iA (aC E 0) 4 f4)], [(sr 1, iA (aC E 0) 4 f5)], [(sr 2, iA (aC E 0) 4 f6)], [(sr 3, iA (aC E 0) 4 f7)], [(sr 4, iA (aC E 0) 4 f8)], [(sr 5, iA (aC E 0) 4 f9)]]) rfl ?_
  refine g_pk [1, 1, 1, 1, 1, 1, 1] rfl ?_
  refine g_fl (cs1 := [[(a, ob 7 [.ref (sr 0), .ref (sr 1), .ref (sr 2), .ref (sr 3), .ref (sr 4), .ref (sr 5), .int (S 6 0)]), (sr 0, iA (aC E 0) 4 f4), (sr 1, iA (aC E 0) 4 f5), (sr 2, iA (aC E 0) 4 f6), (sr 3, iA (aC E 0) 4 f7), (sr 4, iA (aC E 0) 4 f8), (sr 5, iA (aC E 0) 4 f9)], [(q1, ob 7 [.ref (sr11 0), .ref (sr11 1), .ref (sr11 2), .ref (sr11 3), .ref (sr11 4), .ref (sr11 5), .int (S 6 0)]), (sr11 0, iA (aC E 0) 4 (va_cpy f4 f13 0 0 4)), (sr11 1, iA (aC E 0) 4 (va_cpy f5 f14 0 0 4)), (sr11 2, iA (aC E 0) 4 (va_cpy f6 f15 0 0 4)), (sr11 3, iA (aC E 0) 4 (va_cpy f7 f16 0 0 4)), (sr11 4, iA (aC E 0) 4 (va_cpy f8 f17 0 0 4)), (sr11 5, iA (aC E 0) 4 (va_cpy f9 f18 0 0 4))]]) rfl ?_
  refine g_pk [1] rfl ?_
  refine g_cs (cs1 := [[(q1, ob 7 [.ref (sr11 0), .ref (sr11 1), .ref (sr11 2), .ref (sr11 3), .ref (sr11 4), .ref (sr11 5), .int (S 6 0)]), (sr11 0, iA (aC E 0) 4 (va_cpy f4 f13 0 0 4)), (sr11 1, iA (aC E 0) 4 (va_cpy f5 f14 0 0 4)), (sr11 2, iA (aC E 0) 4 (va_cpy f6 f15 0 0 4)), (sr11 3, iA (aC E 0) 4 (va_cpy f7 f16 0 0 4)), (sr11 4, iA (aC E 0) 4 (va_cpy f8 f17 0 0 4)), (sr11 5, iA (aC E 0) 4 (va_cpy f9 f18 0 0 4))], [(a, ob 7 [.ref (sr 0), .ref (sr 1), .ref (sr 2), .ref (sr 3), .ref (sr 4), .ref (sr 5), .int (S 6 0)]), (sr 0, iA (aC E 0) 4 f4), (sr 1, iA (aC E 0) 4 f5), (sr 2, iA (aC E 0) 4 f6), (sr 3, iA (aC E 0) 4 f7), (sr 4, iA (aC E 0) 4 f8), (sr 5, iA (aC E 0) 4 f9)]]) rfl ?_
  refine g_aret hX (pc := 101) hR (by first | exact Or.inl ⟨_, rfl⟩ | exact Or.inr ⟨_, rfl⟩) ?_ (Nat.le_of_ble_eq_true rfl) (Nat.le_of_ble_eq_true rfl) dX8_copy_101
  refine ⟨_, _, IsSt.mk6 (S := S) ?_ rfl, rfl, rfl⟩
  intro k hk
  obtain ⟨e0, e1, e2, e3, e4, e5⟩ := hS10 k hk
  exact ⟨(cpy4 hk).trans e0, (cpy4 hk).trans e1, (cpy4 hk).trans e2, (cpy4 hk).trans e3, (cpy4 hk).trans e4, (cpy4 hk).trans e5⟩

set_option maxHeartbeats 4000000 in
theorem mt_Log_init (E : EE) (l : Launch) (a : Nat) (sp : Nat) : Mt E l yX10_init cX10_init 2 none 4 1 3 72 [.ref a, .ref sp] [[(a, ob 9 [.null, .int 0, .int 0, .int 0, .int 0, .null])]] (fun (v_ : Option Value) (cs_ : List va_W) => ∃ (la : Nat) (w : va_W), ALc E la [] 0 w ∧ v_ = none ∧ cs_ = [[(a, ob 9 [.ref la, .int 0, .int (-1), .int 0, .int 0, .ref sp])], w]) := by
  refine Mt.of (by decide) (Nat.le_of_ble_eq_true rfl) (fun X hX hR hin => ?_)
  refine g_lv1 (lv1 := [(0, .ref a), (1, .ref sp)]) rfl ?_
  refine g_aload_n hX (pc := 0) dX10_init_0 0 rfl ?_
  refine g_objInit hX (pc := 1) q836 q_oi1 q_oi2 (Nat.le_of_ble_eq_true rfl) (Nat.le_of_ble_eq_true rfl) dX10_init_1 ?_
  refine g_aload_n hX (pc := 4) dX10_init_4 0 rfl ?_
  refine g_new hX (pc := 5) fcJ2 q837 q127 q73 (fs := [.int 0, .null, .int 0]) (fun j hj => by match j, hj with | 0, _ => rfl | 1, _ => rfl | 2, _ => rfl | j + 3, h => exact absurd h (by omega)) (Nat.le_of_ble_eq_true rfl) (Nat.le_of_ble_eq_true rfl) dX10_init_5 (fun q1 => ?_)
  refine g_dup hX (pc := 8) dX10_init_8 rfl ?_
  refine g_callI hX (pc := 9) kJ2_init (mt_AL_init E l q1) q838 [0] rfl rfl rfl (Nat.le_of_ble_eq_true rfl) (Nat.le_of_ble_eq_true rfl) (Nat.le_of_ble_eq_true rfl) (Nat.le_of_ble_eq_true rfl) (Nat.le_of_ble_eq_true rfl) dX10_init_9 (fun v w1 hp => ?_)
  obtain ⟨w2, h3, rfl, rfl⟩ := hp
  refine g_nrm (cs1 := [w2, [(a, ob 9 [.null, .int 0, .int 0, .int 0, .int 0, .null])]]) (st1 := [.ref q1, .ref a]) rfl rfl ?_
  refine g_putF hX (pc := 12) fcX10 1 (fs1 := [.ref q1, .int 0, .int 0, .int 0, .int 0, .null]) (cs1 := [w2, [(a, ob 9 [.ref q1, .int 0, .int 0, .int 0, .int 0, .null])]]) rfl 0 (by decide) q839 rfl rfl hin rfl rfl rfl (Nat.le_of_ble_eq_true rfl) rfl rfl dX10_init_12 ?_
  refine g_aload_n hX (pc := 15) dX10_init_15 0 rfl ?_
  refine g_iconst hX (pc := 16) (v := (-1)) dX10_init_16 (by decide) ?_
  refine g_put hX (pc := 17) fcX10 1 (fs1 := [.ref q1, .int 0, .int (-1), .int 0, .int 0, .null]) (cs1 := [w2, [(a, ob 9 [.ref q1, .int 0, .int (-1), .int 0, .int 0, .null])]]) rfl 2 (by decide) q847 rfl rfl rfl rfl (Nat.le_of_ble_eq_true rfl) rfl rfl dX10_init_17 ?_
  refine g_aload_n hX (pc := 20) dX10_init_20 0 rfl ?_
  refine g_aload_n hX (pc := 21) dX10_init_21 1 rfl ?_
  refine g_put hX (pc := 22) fcX10 1 (fs1 := [.ref q1, .int 0, .int (-1), .int 0, .int 0, .ref sp]) (cs1 := [w2, [(a, ob 9 [.ref q1, .int 0, .int (-1), .int 0, .int 0, .ref sp])]]) rfl 5 (by decide) q856 rfl rfl rfl rfl (Nat.le_of_ble_eq_true rfl) rfl rfl dX10_init_22 ?_
  refine g_pk [1, 0] rfl ?_
  refine g_cs (cs1 := [[(a, ob 9 [.ref q1, .int 0, .int (-1), .int 0, .int 0, .ref sp])], w2]) rfl ?_
  refine g_vret hX (pc := 25) hR ?_ (Nat.le_of_ble_eq_true rfl) (Nat.le_of_ble_eq_true rfl) dX10_init_25
  exact ⟨_, _, h3, rfl, rfl⟩

set_option maxHeartbeats 4000000 in
theorem mt_Log_last (E : EE) (l : Launch) (a : Nat) (la : Nat) (t : Int32) (v : Int32) (b : Nat) (bt : Int32) (sp : Nat) (fz : va_W) (ges : List (Nat × PEn)) (wl : va_W) (hE : EL E fz la ges wl) : Mt E l yX10_last cX10_last 1 (some .int) 2 0 0 21 [.ref a] [[(a, ob 9 [.ref la, .int t, .int v, .int (nI b), .int bt, .ref sp])], wl] (fun (v_ : Option Value) (cs_ : List va_W) => v_ = some (.int (nI (b + List.length ges))) ∧ cs_ = [[(a, ob 9 [.ref la, .int t, .int v, .int (nI b), .int bt, .ref sp])], wl]) := by
  refine Mt.of (by decide) (Nat.le_of_ble_eq_true rfl) (fun X hX hR hin => ?_)
  refine g_lv1 (lv1 := [(0, .ref a)]) rfl ?_
  refine g_aload_n hX (pc := 0) dX10_last_0 0 rfl ?_
  refine g_get hX (pc := 1) fcX10 0 rfl 3 (by decide) q850 rfl (v := .int (nI b)) rfl dX10_last_1 ?_
  refine g_aload_n hX (pc := 4) dX10_last_4 0 rfl ?_
  refine g_get hX (pc := 5) fcX10 0 rfl 0 (by decide) q839 rfl (v := .ref la) rfl dX10_last_5 ?_
  obtain ⟨fs1, hm2⟩ := AL.head hE.1
  refine g_callF hX (pc := 8) kfJ2_size (mt_AL_size E l la (List.map Prod.fst ges) wl hE.1) q240 fcJ2 (sp_in 1 rfl hm2) [1] rfl rfl rfl (Nat.le_of_ble_eq_true rfl) (Nat.le_of_ble_eq_true rfl) (Nat.le_of_ble_eq_true rfl) (Nat.le_of_ble_eq_true rfl) (Nat.le_of_ble_eq_true rfl) dX10_last_8 (fun v w1 hp => ?_)
  obtain ⟨rfl, rfl⟩ := hp
  refine g_nrm (cs1 := [wl, [(a, ob 9 [.ref la, .int t, .int v, .int (nI b), .int bt, .ref sp])]]) (st1 := [.int (nI (List.length (List.map Prod.fst ges))), .int (nI b)]) rfl rfl ?_
  refine g_iadd hX (pc := 13) dX10_last_13 ?_
  refine g_pk [1, 0] rfl ?_
  refine g_cs (cs1 := [[(a, ob 9 [.ref la, .int t, .int v, .int (nI b), .int bt, .ref sp])], wl]) rfl ?_
  refine g_iret hX (pc := 14) hR ?_ (Nat.le_of_ble_eq_true rfl) (Nat.le_of_ble_eq_true rfl) dX10_last_14
  exact ⟨by rw [List.length_map, nI_add], rfl⟩

set_option maxHeartbeats 4000000 in
theorem mt_Log_copy (E : EE) (l : Launch) (a : Nat) (la : Nat) (t : Int32) (v : Int32) (b : Nat) (bt : Int32) (sp : Nat) (fz : va_W) (ges : List (Nat × PEn)) (wl : va_W) (hE : EL E fz la ges wl) (hn : (List.length ges ≤ 48)) : Mt E l yX10_copy cX10_copy 3 (some (.object "Quorumspire$Log")) 7 (2 + fl_mc (List.length ges)) (9 + fl_ms (List.length ges)) 171 [.ref a] [[(a, ob 9 [.ref la, .int t, .int v, .int (nI b), .int bt, .ref sp])], wl, fz] (fun (v_ : Option Value) (cs_ : List va_W) => ∃ (q : Nat) (lb : Nat) (w1 : va_W), EL E fz lb ges w1 ∧ v_ = some (.ref q) ∧ cs_ = [[(q, ob 9 [.ref lb, .int t, .int v, .int (nI b), .int bt, .ref sp])], w1, [(a, ob 9 [.ref la, .int t, .int v, .int (nI b), .int bt, .ref sp])], wl, fz]) := by
  refine Mt.of (by decide) (Nat.le_of_ble_eq_true rfl) (fun X hX hR hin => ?_)
  refine g_lv1 (lv1 := [(0, .ref a)]) rfl ?_
  refine g_new hX (pc := 0) fcX10 q831 q832 q85 (fs := [.null, .int 0, .int 0, .int 0, .int 0, .null]) (fun j hj => by match j, hj with | 0, _ => rfl | 1, _ => rfl | 2, _ => rfl | 3, _ => rfl | 4, _ => rfl | 5, _ => rfl | j + 6, h => exact absurd h (by omega)) (by omega) (by omega) dX10_copy_0 (fun q1 => ?_)
  refine g_dup hX (pc := 3) dX10_copy_3 rfl ?_
  refine g_aload_n hX (pc := 4) dX10_copy_4 0 rfl ?_
  refine g_get hX (pc := 5) fcX10 1 rfl 5 (by decide) q856 rfl (v := .ref sp) rfl dX10_copy_5 ?_
  refine g_callI hX (pc := 8) kX10_init (mt_Log_init E l q1 sp) q833 [0] rfl rfl rfl (Nat.le_of_ble_eq_true rfl) (Nat.le_of_ble_eq_true rfl) (Nat.le_of_ble_eq_true rfl) (by omega) (by omega) dX10_copy_8 (fun v w1 hp => ?_)
  obtain ⟨la2, w3, h4, rfl, rfl⟩ := hp
  refine g_nrm (cs1 := [[(q1, ob 9 [.ref la2, .int 0, .int (-1), .int 0, .int 0, .ref sp])], w3, [(a, ob 9 [.ref la, .int t, .int v, .int (nI b), .int bt, .ref sp])], wl, fz]) (st1 := [.ref q1]) rfl rfl ?_
  refine g_astore_n hX (pc := 11) (lv1 := [(1, .ref q1), (0, .ref a)]) dX10_copy_11 (by decide) rfl ?_
  refine g_iconst hX (pc := 12) (v := 0) dX10_copy_12 (by decide) ?_
  refine g_eqi (nI 0) (nI_0.symm) ?_
  refine g_istore_n hX (pc := 13) (lv1 := [(2, .int (nI 0)), (1, .ref q1), (0, .ref a)]) dX10_copy_13 (by decide) rfl ?_
  have lp5 : ∀ (F1 : Nat) (i : Nat) (w1 : va_W), List.length ges - i < F1 → (i ≤ List.length ges) → ALc E la2 (List.take i (List.map Prod.fst ges)) (fl_cap i) w1 → G E l X [[(q1, ob 9 [.ref la2, .int 0, .int (-1), .int 0, .int 0, .ref sp])], w1, [(a, ob 9 [.ref la, .int t, .int v, .int (nI b), .int bt, .ref sp])], wl, fz] (2 + fl_mc i) (9 + fl_ms i) 14 [(2, .int (nI i)), (1, .ref q1), (0, .ref a)] [] := by
    intro F1
    induction F1 with
    | zero =>
      intro i w1 hF hi hw
      exact absurd hF (Nat.not_lt_zero _)
    | succ F1 ih1 =>
      intro i w1 hF hi hw
      have hm0 := fl_mono hi
      refine g_iload_n hX (pc := 14) dX10_copy_14 0 rfl ?_
      refine g_aload_n hX (pc := 15) dX10_copy_15 2 rfl ?_
      refine g_get hX (pc := 16) fcX10 2 rfl 0 (by decide) q839 rfl (v := .ref la) rfl dX10_copy_16 ?_
      obtain ⟨fs6, hm7⟩ := AL.head hE.1
      refine g_callF hX (pc := 19) kfJ2_size (mt_AL_size E l la (List.map Prod.fst ges) wl hE.1) q240 fcJ2 (sp_in 3 rfl hm7) [3] rfl rfl rfl (Nat.le_of_ble_eq_true rfl) (Nat.le_of_ble_eq_true rfl) (Nat.le_of_ble_eq_true rfl) (by omega) (by omega) dX10_copy_19 (fun v w1 hp => ?_)
      obtain ⟨rfl, rfl⟩ := hp
      refine g_nrm (cs1 := [wl, [(q1, ob 9 [.ref la2, .int 0, .int (-1), .int 0, .int 0, .ref sp])], w1, [(a, ob 9 [.ref la, .int t, .int v, .int (nI b), .int bt, .ref sp])], fz]) (st1 := [.int (nI (List.length (List.map Prod.fst ges))), .int (nI i)]) rfl rfl ?_
      refine g_icmp_ge hX (pc := 24) (tgt := 56) dX10_copy_24 rfl (fun c8 => ?_) (fun c8 => ?_)
      · have hi3 : i = List.length ges := by
          rw [List.length_map] at c8
          have := (nI_leI (a := List.length ges) (b := i) (by omega) (by omega)).mp c8
          omega
        refine g_aload_n hX (pc := 56) dX10_copy_56 1 rfl ?_
        refine g_aload_n hX (pc := 57) dX10_copy_57 2 rfl ?_
        refine g_get hX (pc := 58) fcX10 3 rfl 1 (by decide) q843 rfl (v := .int t) rfl dX10_copy_58 ?_
        refine g_put hX (pc := 61) fcX10 1 (fs1 := [.ref la2, .int t, .int (-1), .int 0, .int 0, .ref sp]) (cs1 := [wl, [(q1, ob 9 [.ref la2, .int t, .int (-1), .int 0, .int 0, .ref sp])], w1, [(a, ob 9 [.ref la, .int t, .int v, .int (nI b), .int bt, .ref sp])], fz]) rfl 1 (by decide) q843 rfl rfl rfl rfl (Nat.le_of_ble_eq_true rfl) rfl rfl dX10_copy_61 ?_
        refine g_aload_n hX (pc := 64) dX10_copy_64 1 rfl ?_
        refine g_aload_n hX (pc := 65) dX10_copy_65 2 rfl ?_
        refine g_get hX (pc := 66) fcX10 3 rfl 2 (by decide) q847 rfl (v := .int v) rfl dX10_copy_66 ?_
        refine g_put hX (pc := 69) fcX10 1 (fs1 := [.ref la2, .int t, .int v, .int 0, .int 0, .ref sp]) (cs1 := [wl, [(q1, ob 9 [.ref la2, .int t, .int v, .int 0, .int 0, .ref sp])], w1, [(a, ob 9 [.ref la, .int t, .int v, .int (nI b), .int bt, .ref sp])], fz]) rfl 2 (by decide) q847 rfl rfl rfl rfl (Nat.le_of_ble_eq_true rfl) rfl rfl dX10_copy_69 ?_
        refine g_aload_n hX (pc := 72) dX10_copy_72 1 rfl ?_
        refine g_aload_n hX (pc := 73) dX10_copy_73 2 rfl ?_
        refine g_get hX (pc := 74) fcX10 3 rfl 3 (by decide) q850 rfl (v := .int (nI b)) rfl dX10_copy_74 ?_
        refine g_put hX (pc := 77) fcX10 1 (fs1 := [.ref la2, .int t, .int v, .int (nI b), .int 0, .ref sp]) (cs1 := [wl, [(q1, ob 9 [.ref la2, .int t, .int v, .int (nI b), .int 0, .ref sp])], w1, [(a, ob 9 [.ref la, .int t, .int v, .int (nI b), .int bt, .ref sp])], fz]) rfl 3 (by decide) q850 rfl rfl rfl rfl (Nat.le_of_ble_eq_true rfl) rfl rfl dX10_copy_77 ?_
        refine g_aload_n hX (pc := 80) dX10_copy_80 1 rfl ?_
        refine g_aload_n hX (pc := 81) dX10_copy_81 2 rfl ?_
        refine g_get hX (pc := 82) fcX10 3 rfl 4 (by decide) q854 rfl (v := .int bt) rfl dX10_copy_82 ?_
        refine g_put hX (pc := 85) fcX10 1 (fs1 := [.ref la2, .int t, .int v, .int (nI b), .int bt, .ref sp]) (cs1 := [wl, [(q1, ob 9 [.ref la2, .int t, .int v, .int (nI b), .int bt, .ref sp])], w1, [(a, ob 9 [.ref la, .int t, .int v, .int (nI b), .int bt, .ref sp])], fz]) rfl 4 (by decide) q854 rfl rfl rfl rfl (Nat.le_of_ble_eq_true rfl) rfl rfl dX10_copy_85 ?_
        refine g_aload_n hX (pc := 88) dX10_copy_88 1 rfl ?_
        refine g_pk [1, 1, 1, 0, 0] rfl ?_
        refine g_cs (cs1 := [[(q1, ob 9 [.ref la2, .int t, .int v, .int (nI b), .int bt, .ref sp])], w1, [(a, ob 9 [.ref la, .int t, .int v, .int (nI b), .int bt, .ref sp])], wl, fz]) rfl ?_
        refine g_aret hX (pc := 89) hR (by first | exact Or.inl ⟨_, rfl⟩ | exact Or.inr ⟨_, rfl⟩) ?_ (by omega) (by omega) dX10_copy_89
        subst hi3
        rw [← List.length_map (f := Prod.fst), List.take_length] at hw
        exact ⟨_, _, _, ⟨hw.al, hE.2⟩, rfl, rfl⟩
      · have hi2 : i < List.length ges := by
          rw [List.length_map] at c8
          have := mt (nI_leI (a := List.length ges) (b := i) (by omega) (by omega)).mpr c8
          omega
        obtain ⟨g, hg⟩ := get_ex hi2
        have hz := (en_at hE.2 hg).1
        have hlen : List.length (List.take i (List.map Prod.fst ges)) = i := by rw [List.length_take, List.length_map]; omega
        obtain ⟨hs1, hs2, hs3⟩ := fl_step (n := i) (by omega)
        have hm := fl_mono (show i + 1 ≤ List.length ges by omega)
        have e2 : al_mc (List.length (List.take i (List.map Prod.fst ges))) (fl_cap i) = al_mc i (fl_cap i) := by rw [hlen]
        have e3 : al_ms (List.length (List.take i (List.map Prod.fst ges))) (fl_cap i) = al_ms i (fl_cap i) := by rw [hlen]
        have hfl := fl_le i
        refine g_aload_n hX (pc := 27) dX10_copy_27 1 rfl ?_
        refine g_get hX (pc := 28) fcX10 1 rfl 0 (by decide) q839 rfl (v := .ref la2) rfl dX10_copy_28 ?_
        refine g_aload_n hX (pc := 31) dX10_copy_31 2 rfl ?_
        refine g_get hX (pc := 32) fcX10 3 rfl 0 (by decide) q839 rfl (v := .ref la) rfl dX10_copy_32 ?_
        refine g_iload_n hX (pc := 35) dX10_copy_35 0 rfl ?_
        refine g_callF hX (pc := 36) kfJ2_get (mt_AL_get E l la (List.map Prod.fst ges) wl i g.1 hE.1 (map_get hg)) q253 fcJ2 (sp_in 0 rfl hm7) [0] rfl rfl rfl (Nat.le_of_ble_eq_true rfl) (Nat.le_of_ble_eq_true rfl) (Nat.le_of_ble_eq_true rfl) (by omega) (by omega) dX10_copy_36 (fun v w1 hp => ?_)
        obtain ⟨rfl, rfl⟩ := hp
        refine g_nrm (cs1 := [wl, [(q1, ob 9 [.ref la2, .int 0, .int (-1), .int 0, .int 0, .ref sp])], w1, [(a, ob 9 [.ref la, .int t, .int v, .int (nI b), .int bt, .ref sp])], fz]) (st1 := [.ref g.1, .ref la2]) rfl rfl ?_
        refine g_cast hX (pc := 41) fcX14 (sp_in 4 rfl hz) q254 dX10_copy_41 ?_
        obtain ⟨fs9, hm10⟩ := AL.head hw.al
        refine g_callF hX (pc := 44) kfJ2_add_2 (mt_ALc_add E l la2 (List.take i (List.map Prod.fst ges)) (fl_cap i) w1 g.1 fz hw (by omega) (Or.inl ⟨12, _, hz, by omega⟩) (fun y hy => en_ok hE.2 y (List.mem_of_mem_take hy))) q873 fcJ2 (sp_in 2 rfl hm10) [2, 3] rfl rfl rfl (Nat.le_of_ble_eq_true rfl) (Nat.le_of_ble_eq_true rfl) (Nat.le_of_ble_eq_true rfl) (by omega) (by omega) dX10_copy_44 (fun v w1 hp => ?_)
        obtain ⟨w111, h12, rfl, rfl⟩ := hp
        refine g_nrm (cs1 := [w111, fz, wl, [(q1, ob 9 [.ref la2, .int 0, .int (-1), .int 0, .int 0, .ref sp])], [(a, ob 9 [.ref la, .int t, .int v, .int (nI b), .int bt, .ref sp])]]) (st1 := [.int 1]) rfl rfl ?_
        refine g_pop hX (pc := 49) dX10_copy_49 rfl ?_
        refine g_iinc hX (pc := 50) (v := nI (i + 1)) (lv1 := [(2, .int (nI (i + 1))), (1, .ref q1), (0, .ref a)]) dX10_copy_50 0 rfl (nI_1 _) (by decide) rfl ?_
        refine g_goto hX (pc := 53) (tgt := 14) dX10_copy_53 rfl ?_
        refine g_pk [3, 0, 2, 1, 0] rfl ?_
        refine g_cs (cs1 := [[(q1, ob 9 [.ref la2, .int 0, .int (-1), .int 0, .int 0, .ref sp])], w111, [(a, ob 9 [.ref la, .int t, .int v, .int (nI b), .int bt, .ref sp])], wl, fz]) rfl ?_
        refine g_widen (kc1 := 2 + fl_mc (i + 1)) (ks1 := 9 + fl_ms (i + 1)) (by omega) (by omega) ?_
        exact ih1 (i + 1) w111 (by omega) (by omega) (by
  have hx := h12
  rw [take_snoc (map_get hg), hlen, hs1] at hx
  exact hx)
  refine g_widen (kc1 := 2 + fl_mc 0) (ks1 := 9 + fl_ms 0) (by omega) (by omega) ?_
  exact lp5 ((List.length ges - 0) + 1) 0 w3 (Nat.lt_succ_self _) (Nat.zero_le _) (h4)

set_option maxHeartbeats 4000000 in
theorem mt_Log_has (E : EE) (l : Launch) (a : Nat) (la : Nat) (t : Int32) (v : Int32) (b : Nat) (bt : Int32) (sp : Nat) (fz : va_W) (ges : List (Nat × PEn)) (wl : va_W) (n : Nat) (hE : EL E fz la ges wl) (hb : (b + List.length ges ≤ 1000000)) (hn : (n ≤ 1000000)) : Mt E l yX10_has cX10_has 2 (some .boolean) 3 0 0 41 [.ref a, .int (nI n)] [[(a, ob 9 [.ref la, .int t, .int v, .int (nI b), .int bt, .ref sp])], wl] (fun (v_ : Option Value) (cs_ : List va_W) => v_ = some (.int (if b < n ∧ n ≤ b + List.length ges then 1 else 0)) ∧ cs_ = [[(a, ob 9 [.ref la, .int t, .int v, .int (nI b), .int bt, .ref sp])], wl]) := by
  refine Mt.of (by decide) (Nat.le_of_ble_eq_true rfl) (fun X hX hR hin => ?_)
  refine g_lv1 (lv1 := [(0, .ref a), (1, .int (nI n))]) rfl ?_
  refine g_iload_n hX (pc := 0) dX10_has_0 1 rfl ?_
  refine g_aload_n hX (pc := 1) dX10_has_1 0 rfl ?_
  refine g_get hX (pc := 2) fcX10 0 rfl 3 (by decide) q850 rfl (v := .int (nI b)) rfl dX10_has_2 ?_
  refine g_icmp_le hX (pc := 5) (tgt := 20) dX10_has_5 rfl (fun c1 => ?_) (fun c1 => ?_)
  · refine g_iconst hX (pc := 20) (v := 0) dX10_has_20 (by decide) ?_
    refine g_zret hX (pc := 21) hR rfl ?_ (Nat.le_of_ble_eq_true rfl) (Nat.le_of_ble_eq_true rfl) dX10_has_21
    refine ⟨?_, rfl⟩
    have d1 := (nI_leI (by omega) (by omega)).mp c1
    rw [if_neg (by omega)]
  · refine g_iload_n hX (pc := 8) dX10_has_8 1 rfl ?_
    refine g_aload_n hX (pc := 9) dX10_has_9 0 rfl ?_
    refine g_callV hX (pc := 10) kX10_last (mt_Log_last E l a la t v b bt sp fz ges wl hE) q1234 fcX10 (sp_mem (i := 0) rfl) [0, 0] rfl rfl rfl (Nat.le_of_ble_eq_true rfl) (Nat.le_of_ble_eq_true rfl) (Nat.le_of_ble_eq_true rfl) (Nat.le_of_ble_eq_true rfl) (Nat.le_of_ble_eq_true rfl) dX10_has_10 (fun v w1 hp => ?_)
    obtain ⟨rfl, rfl⟩ := hp
    refine g_nrm (cs1 := [[(a, ob 9 [.ref la, .int t, .int v, .int (nI b), .int bt, .ref sp])], wl]) (st1 := [.int (nI (b + List.length ges)), .int (nI n)]) rfl rfl ?_
    refine g_val (v := if (nI (b + List.length ges)) < (nI n) then 0 else 1) (pcJ := 21) (st1 := []) (fun hj2 => ?_) ?_
    · refine g_icmp_gt hX (pc := 13) (tgt := 20) dX10_has_13 rfl (fun c3 => ?_) (fun c3 => ?_)
      · refine g_iconst hX (pc := 20) (v := 0) dX10_has_20 (by decide) ?_
        exact hj2 _ (by rw [if_pos c3])
      · refine g_iconst hX (pc := 16) (v := 1) dX10_has_16 (by decide) ?_
        refine g_goto hX (pc := 17) (tgt := 21) dX10_has_17 rfl ?_
        exact hj2 _ (by rw [if_neg c3])
    refine g_zret hX (pc := 21) hR (nz01 _) ?_ (Nat.le_of_ble_eq_true rfl) (Nat.le_of_ble_eq_true rfl) dX10_has_21
    refine ⟨?_, rfl⟩
    have d1 := mt (nI_leI (by omega) (by omega)).mpr c1
    have e2 : (nI (b + List.length ges) < nI n) ↔ b + List.length ges < n := nI_ltI (by omega) (by omega)
    simp only [e2]
    by_cases h : b + List.length ges < n
    · rw [if_pos h, if_neg (by omega)]
    · rw [if_neg h, if_pos ⟨by omega, by omega⟩]

set_option maxHeartbeats 4000000 in
theorem mt_Log_at (E : EE) (l : Launch) (a : Nat) (la : Nat) (t : Int32) (v : Int32) (b : Nat) (bt : Int32) (sp : Nat) (fz : va_W) (ges : List (Nat × PEn)) (wl : va_W) (n : Nat) (g : Nat × PEn) (hE : EL E fz la ges wl) (hg : (ges[n - b - 1]? = some g)) (hbn : (b < n)) (hn : (n ≤ 1000000)) : Mt E l yX10_at cX10_at 2 (some (.object "Quorumspire$Entry")) 4 0 0 65 [.ref a, .int (nI n)] [[(a, ob 9 [.ref la, .int t, .int v, .int (nI b), .int bt, .ref sp])], wl, fz] (fun (v_ : Option Value) (cs_ : List va_W) => v_ = some (.ref g.1) ∧ cs_ = [[(a, ob 9 [.ref la, .int t, .int v, .int (nI b), .int bt, .ref sp])], wl, fz]) := by
  have hz := (en_at hE.2 hg).1
  refine Mt.of (by decide) (Nat.le_of_ble_eq_true rfl) (fun X hX hR hin => ?_)
  refine g_lv1 (lv1 := [(0, .ref a), (1, .int (nI n))]) rfl ?_
  refine g_aload_n hX (pc := 0) dX10_at_0 0 rfl ?_
  refine g_get hX (pc := 1) fcX10 0 rfl 0 (by decide) q839 rfl (v := .ref la) rfl dX10_at_1 ?_
  refine g_iload_n hX (pc := 4) dX10_at_4 1 rfl ?_
  refine g_aload_n hX (pc := 5) dX10_at_5 0 rfl ?_
  refine g_get hX (pc := 6) fcX10 0 rfl 3 (by decide) q850 rfl (v := .int (nI b)) rfl dX10_at_6 ?_
  refine g_isub hX (pc := 9) dX10_at_9 ?_
  refine g_iconst hX (pc := 10) (v := 1) dX10_at_10 (by decide) ?_
  refine g_isub hX (pc := 11) dX10_at_11 ?_
  refine g_eqi (nI (n - b - 1)) (by rw [pk_sub (by omega), show (1 : Int32) = nI 1 from rfl, pk_sub (by omega)]) ?_
  obtain ⟨fs1, hm2⟩ := AL.head hE.1
  refine g_callF hX (pc := 12) kfJ2_get (mt_AL_get E l la (List.map Prod.fst ges) wl (n - b - 1) g.1 hE.1 (map_get hg)) q253 fcJ2 (sp_in 1 rfl hm2) [1] rfl rfl rfl (Nat.le_of_ble_eq_true rfl) (Nat.le_of_ble_eq_true rfl) (Nat.le_of_ble_eq_true rfl) (Nat.le_of_ble_eq_true rfl) (Nat.le_of_ble_eq_true rfl) dX10_at_12 (fun v w1 hp => ?_)
  obtain ⟨rfl, rfl⟩ := hp
  refine g_nrm (cs1 := [wl, [(a, ob 9 [.ref la, .int t, .int v, .int (nI b), .int bt, .ref sp])], fz]) (st1 := [.ref g.1]) rfl rfl ?_
  refine g_cast hX (pc := 17) fcX14 (sp_in 2 rfl hz) q254 dX10_at_17 ?_
  refine g_pk [1, 0, 0] rfl ?_
  refine g_cs (cs1 := [[(a, ob 9 [.ref la, .int t, .int v, .int (nI b), .int bt, .ref sp])], wl, fz]) rfl ?_
  refine g_aret hX (pc := 20) hR (by first | exact Or.inl ⟨_, rfl⟩ | exact Or.inr ⟨_, rfl⟩) ?_ (Nat.le_of_ble_eq_true rfl) (Nat.le_of_ble_eq_true rfl) dX10_at_20
  exact ⟨rfl, rfl⟩

set_option maxHeartbeats 4000000 in
theorem mt_Log_termAt (E : EE) (l : Launch) (a : Nat) (la : Nat) (t : Int32) (v : Int32) (b : Nat) (bt : Int32) (sp : Nat) (fz : va_W) (ges : List (Nat × PEn)) (wl : va_W) (n : Nat) (g : Nat × PEn) (hE : EL E fz la ges wl) (hg : (¬ n = b → ges[n - b - 1]? = some g ∧ b < n)) (hn : (n ≤ 1000000)) (hb : (b ≤ 1000000)) : Mt E l yX10_termAt cX10_termAt 2 (some .int) 5 0 0 86 [.ref a, .int (nI n)] [[(a, ob 9 [.ref la, .int t, .int v, .int (nI b), .int bt, .ref sp])], wl, fz] (fun (v_ : Option Value) (cs_ : List va_W) => v_ = some (.int (if n = b then bt else g.2.1)) ∧ cs_ = [[(a, ob 9 [.ref la, .int t, .int v, .int (nI b), .int bt, .ref sp])], wl, fz]) := by
  refine Mt.of (by decide) (Nat.le_of_ble_eq_true rfl) (fun X hX hR hin => ?_)
  refine g_lv1 (lv1 := [(0, .ref a), (1, .int (nI n))]) rfl ?_
  refine g_iload_n hX (pc := 0) dX10_termAt_0 1 rfl ?_
  refine g_aload_n hX (pc := 1) dX10_termAt_1 0 rfl ?_
  refine g_get hX (pc := 2) fcX10 0 rfl 3 (by decide) q850 rfl (v := .int (nI b)) rfl dX10_termAt_2 ?_
  refine g_icmp_ne hX (pc := 5) (tgt := 15) dX10_termAt_5 rfl (fun c1 => ?_) (fun c1 => ?_)
  · have d1 : ¬ n = b := mt (nI_eq (by omega) (by omega)).mpr c1
    obtain ⟨hg1, hg2⟩ := hg d1
    have hz := (en_at hE.2 hg1).1
    refine g_aload_n hX (pc := 15) dX10_termAt_15 0 rfl ?_
    refine g_iload_n hX (pc := 16) dX10_termAt_16 1 rfl ?_
    refine g_callV hX (pc := 17) kX10_at (mt_Log_at E l a la t v b bt sp fz ges wl n g hE (hg1) (hg2) (hn)) q1048 fcX10 (sp_mem (i := 0) rfl) [0, 0, 0] rfl rfl rfl (Nat.le_of_ble_eq_true rfl) (Nat.le_of_ble_eq_true rfl) (Nat.le_of_ble_eq_true rfl) (Nat.le_of_ble_eq_true rfl) (Nat.le_of_ble_eq_true rfl) dX10_termAt_17 (fun v w1 hp => ?_)
    obtain ⟨rfl, rfl⟩ := hp
    refine g_nrm (cs1 := [[(a, ob 9 [.ref la, .int t, .int v, .int (nI b), .int bt, .ref sp])], wl, fz]) (st1 := [.ref g.1]) rfl rfl ?_
    refine g_getNm hX (pc := 20) fcX14 (sp_in 2 rfl hz) 0 (by decide) q1117 rfl (v := .int g.2.1) rfl dX10_termAt_20 ?_
    refine g_iret hX (pc := 23) hR ?_ (Nat.le_of_ble_eq_true rfl) (Nat.le_of_ble_eq_true rfl) dX10_termAt_23
    exact ⟨by rw [if_neg d1], rfl⟩
  · have d1 : n = b := (nI_eq (by omega) (by omega)).mp c1
    refine g_aload_n hX (pc := 8) dX10_termAt_8 0 rfl ?_
    refine g_get hX (pc := 9) fcX10 0 rfl 4 (by decide) q854 rfl (v := .int bt) rfl dX10_termAt_9 ?_
    refine g_goto hX (pc := 12) (tgt := 23) dX10_termAt_12 rfl ?_
    refine g_iret hX (pc := 23) hR ?_ (Nat.le_of_ble_eq_true rfl) (Nat.le_of_ble_eq_true rfl) dX10_termAt_23
    exact ⟨by rw [if_pos d1], rfl⟩

set_option maxHeartbeats 4000000 in
theorem mt_Log_cutFrom (E : EE) (l : Launch) (a : Nat) (la : Nat) (t : Int32) (v : Int32) (b : Nat) (bt : Int32) (sp : Nat) (fz : va_W) (ges : List (Nat × PEn)) (wl : va_W) (n : Nat) (hE : EL E fz la ges wl) (hb : (b + List.length ges ≤ 1000000)) (hn : (n ≤ 1000000)) (hbn : (b < n)) : Mt E l yX10_cutFrom cX10_cutFrom 2 none 4 0 0 86 [.ref a, .int (nI n)] [[(a, ob 9 [.ref la, .int t, .int v, .int (nI b), .int bt, .ref sp])], wl, fz] (fun (v_ : Option Value) (cs_ : List va_W) => ∃ (w1 : va_W), EL E fz la (List.take (n - b - 1) ges) w1 ∧ v_ = none ∧ cs_ = [[(a, ob 9 [.ref la, .int t, .int v, .int (nI b), .int bt, .ref sp])], w1, fz]) := by
  refine Mt.of (by decide) (Nat.le_of_ble_eq_true rfl) (fun X hX hR hin => ?_)
  refine g_lv1 (lv1 := [(0, .ref a), (1, .int (nI n))]) rfl ?_
  have lp1 : ∀ (F1 : Nat) (gs : List (Nat × PEn)) (w1 : va_W), List.length gs < F1 → EL E fz la gs w1 → (b + List.length gs ≤ 1000000) → (List.take (n - b - 1) gs = List.take (n - b - 1) ges) → G E l X [[(a, ob 9 [.ref la, .int t, .int v, .int (nI b), .int bt, .ref sp])], w1, fz] 0 0 0 [(0, .ref a), (1, .int (nI n))] [] := by
    intro F1
    induction F1 with
    | zero =>
      intro gs w1 hF hE1 hlen hk
      exact absurd hF (Nat.not_lt_zero _)
    | succ F1 ih1 =>
      intro gs w1 hF hE1 hlen hk
      refine g_aload_n hX (pc := 0) dX10_cutFrom_0 0 rfl ?_
      refine g_callV hX (pc := 1) kX10_last (mt_Log_last E l a la t v b bt sp fz gs w1 hE1) q1234 fcX10 (sp_mem (i := 0) rfl) [0, 0] rfl rfl rfl (Nat.le_of_ble_eq_true rfl) (Nat.le_of_ble_eq_true rfl) (Nat.le_of_ble_eq_true rfl) (by omega) (by omega) dX10_cutFrom_1 (fun v w1 hp => ?_)
      obtain ⟨rfl, rfl⟩ := hp
      refine g_nrm (cs1 := [[(a, ob 9 [.ref la, .int t, .int v, .int (nI b), .int bt, .ref sp])], w1, fz]) (st1 := [.int (nI (b + List.length gs))]) rfl rfl ?_
      refine g_iload_n hX (pc := 4) dX10_cutFrom_4 1 rfl ?_
      refine g_icmp_lt hX (pc := 5) (tgt := 32) dX10_cutFrom_5 rfl (fun c2 => ?_) (fun c2 => ?_)
      · have d1 : b + List.length gs < n := (nI_ltI (by omega) (by omega)).mp c2
        refine g_vret hX (pc := 32) hR ?_ (by omega) (by omega) dX10_cutFrom_32
        rw [List.take_of_length_le (by omega)] at hk
        rw [← hk]
        exact ⟨_, hE1, rfl, rfl⟩
      · have d1 : n ≤ b + List.length gs := by
          have := mt (nI_ltI (a := b + List.length gs) (b := n) (by omega) (by omega)).mpr c2
          omega
        obtain ⟨g, hg⟩ := get_ex (l := gs) (i := List.length gs - 1) (by omega)
        have hle : (List.eraseIdx gs (List.length gs - 1)).length = List.length gs - 1 := by rw [List.length_eraseIdx, if_pos (by omega)]
        have hdl : List.eraseIdx gs (List.length gs - 1) = List.take (List.length gs - 1) gs := by rw [List.eraseIdx_eq_take_drop_succ, List.drop_of_length_le (by omega), List.append_nil]
        refine g_aload_n hX (pc := 8) dX10_cutFrom_8 0 rfl ?_
        refine g_get hX (pc := 9) fcX10 0 rfl 0 (by decide) q839 rfl (v := .ref la) rfl dX10_cutFrom_9 ?_
        refine g_aload_n hX (pc := 12) dX10_cutFrom_12 0 rfl ?_
        refine g_get hX (pc := 13) fcX10 0 rfl 0 (by decide) q839 rfl (v := .ref la) rfl dX10_cutFrom_13 ?_
        obtain ⟨fs3, hm4⟩ := AL.head hE1.1
        refine g_callF hX (pc := 16) kfJ2_size (mt_AL_size E l la (List.map Prod.fst gs) w1 hE1.1) q240 fcJ2 (sp_in 1 rfl hm4) [1] rfl rfl rfl (Nat.le_of_ble_eq_true rfl) (Nat.le_of_ble_eq_true rfl) (Nat.le_of_ble_eq_true rfl) (by omega) (by omega) dX10_cutFrom_16 (fun v w1 hp => ?_)
        obtain ⟨rfl, rfl⟩ := hp
        refine g_nrm (cs1 := [w1, [(a, ob 9 [.ref la, .int t, .int v, .int (nI b), .int bt, .ref sp])], fz]) (st1 := [.int (nI (List.length (List.map Prod.fst gs))), .ref la]) rfl rfl ?_
        refine g_iconst hX (pc := 21) (v := 1) dX10_cutFrom_21 (by decide) ?_
        refine g_isub hX (pc := 22) dX10_cutFrom_22 ?_
        refine g_eqi (nI (List.length gs - 1)) (by rw [List.length_map, show (1 : Int32) = nI 1 from rfl, pk_sub (by omega)]) ?_
        refine g_callF hX (pc := 23) kfJ2_remove (mt_AL_remove E l la (List.map Prod.fst gs) w1 (List.length gs - 1) g.1 fz hE1.1 (map_get hg) (en_ok hE1.2)) q1236 fcJ2 (sp_in 0 rfl hm4) [0, 1] rfl rfl rfl (Nat.le_of_ble_eq_true rfl) (Nat.le_of_ble_eq_true rfl) (Nat.le_of_ble_eq_true rfl) (by omega) (by omega) dX10_cutFrom_23 (fun v w1 hp => ?_)
        obtain ⟨w15, h6, rfl, rfl⟩ := hp
        refine g_nrm (cs1 := [w15, fz, [(a, ob 9 [.ref la, .int t, .int v, .int (nI b), .int bt, .ref sp])]]) (st1 := [.ref g.1]) rfl rfl ?_
        refine g_pop hX (pc := 28) dX10_cutFrom_28 rfl ?_
        refine g_goto hX (pc := 29) (tgt := 0) dX10_cutFrom_29 rfl ?_
        refine g_pk [2, 0, 0] rfl ?_
        refine g_cs (cs1 := [[(a, ob 9 [.ref la, .int t, .int v, .int (nI b), .int bt, .ref sp])], w15, fz]) rfl ?_
        refine g_widen (kc1 := 0) (ks1 := 0) (by omega) (by omega) ?_
        exact ih1 (List.eraseIdx gs (List.length gs - 1)) w15 (by omega) (⟨by rw [er_map]; exact h6, fun g hg => hE1.2 g (List.mem_of_mem_eraseIdx hg)⟩) (by rw [hle]; omega) (by rw [hdl, List.take_take, Nat.min_eq_left (by omega)]; exact hk)
  refine g_widen (kc1 := 0) (ks1 := 0) (by omega) (by omega) ?_
  exact lp1 ((List.length ges) + 1) ges wl (Nat.lt_succ_self _) hE (hb) (rfl)

set_option maxHeartbeats 4000000 in
theorem mt_Log_begin (E : EE) (l : Launch) (a : Nat) (la : Nat) (t : Int32) (v : Int32) (b : Nat) (bt : Int32) (sp : Nat) (fz : va_W) (ges : List (Nat × PEn)) (wl : va_W) (n : Nat) (nt : Int32) (ns : Nat) (hE : EL E fz la ges wl) (hb : (b + List.length ges ≤ 1000000)) (hn : (n ≤ 1000000)) (hbn : (b ≤ n)) : Mt E l yX10_begin cX10_begin 6 none 4 0 0 86 [.ref a, .int (nI n), .int nt, .ref ns] [[(a, ob 9 [.ref la, .int t, .int v, .int (nI b), .int bt, .ref sp])], wl, fz] (fun (v_ : Option Value) (cs_ : List va_W) => ∃ (w1 : va_W), EL E fz la (List.drop (n - b) ges) w1 ∧ v_ = none ∧ cs_ = [[(a, ob 9 [.ref la, .int t, .int v, .int (nI n), .int nt, .ref ns])], w1, fz]) := by
  refine Mt.of (by decide) (Nat.le_of_ble_eq_true rfl) (fun X hX hR hin => ?_)
  refine g_lv1 (lv1 := [(0, .ref a), (1, .int (nI n)), (2, .int nt), (3, .ref ns)]) rfl ?_
  refine g_aload_n hX (pc := 0) dX10_begin_0 0 rfl ?_
  refine g_get hX (pc := 1) fcX10 0 rfl 0 (by decide) q839 rfl (v := .ref la) rfl dX10_begin_1 ?_
  obtain ⟨fs1, hm2⟩ := AL.head hE.1
  refine g_callF hX (pc := 4) kfJ2_size (mt_AL_size E l la (List.map Prod.fst ges) wl hE.1) q240 fcJ2 (sp_in 1 rfl hm2) [1] rfl rfl rfl (Nat.le_of_ble_eq_true rfl) (Nat.le_of_ble_eq_true rfl) (Nat.le_of_ble_eq_true rfl) (by omega) (by omega) dX10_begin_4 (fun v w1 hp => ?_)
  obtain ⟨rfl, rfl⟩ := hp
  refine g_nrm (cs1 := [wl, [(a, ob 9 [.ref la, .int t, .int v, .int (nI b), .int bt, .ref sp])], fz]) (st1 := [.int (nI (List.length (List.map Prod.fst ges)))]) rfl rfl ?_
  refine g_iload_n hX (pc := 9) dX10_begin_9 1 rfl ?_
  refine g_aload_n hX (pc := 10) dX10_begin_10 0 rfl ?_
  refine g_get hX (pc := 11) fcX10 1 rfl 3 (by decide) q850 rfl (v := .int (nI b)) rfl dX10_begin_11 ?_
  refine g_isub hX (pc := 14) dX10_begin_14 ?_
  refine g_eqi (nI (n - b)) (pk_sub (by omega)) ?_
  refine g_mmin hX (pc := 15) q1241 (Nat.le_of_ble_eq_true rfl) (Nat.le_of_ble_eq_true rfl) (by omega) (by omega) q_m1min q_m2 q_m3min dX10_begin_15 ?_
  refine g_eqi (nI (min (List.length ges) (n - b))) (by rw [List.length_map]; exact al_min (by omega) (by omega)) ?_
  refine g_istore hX (pc := 18) (lv1 := [(4, .int (nI (min (List.length ges) (n - b)))), (0, .ref a), (1, .int (nI n)), (2, .int nt), (3, .ref ns)]) dX10_begin_18 (by decide) rfl ?_
  refine g_iconst hX (pc := 20) (v := 0) dX10_begin_20 (by decide) ?_
  refine g_eqi (nI 0) (nI_0.symm) ?_
  refine g_istore hX (pc := 21) (lv1 := [(5, .int (nI 0)), (4, .int (nI (min (List.length ges) (n - b)))), (0, .ref a), (1, .int (nI n)), (2, .int nt), (3, .ref ns)]) dX10_begin_21 (by decide) rfl ?_
  have lp3 : ∀ (F1 : Nat) (i : Nat) (w1 : va_W), min (List.length ges) (n - b) - i < F1 → (i ≤ min (List.length ges) (n - b)) → EL E fz la (List.drop i ges) w1 → G E l X [[(a, ob 9 [.ref la, .int t, .int v, .int (nI b), .int bt, .ref sp])], w1, fz] 0 0 23 [(5, .int (nI i)), (4, .int (nI (min (List.length ges) (n - b)))), (0, .ref a), (1, .int (nI n)), (2, .int nt), (3, .ref ns)] [] := by
    intro F1
    induction F1 with
    | zero =>
      intro i w1 hF hi hE1
      exact absurd hF (Nat.not_lt_zero _)
    | succ F1 ih1 =>
      intro i w1 hF hi hE1
      refine g_iload hX (pc := 23) dX10_begin_23 0 rfl ?_
      refine g_iload hX (pc := 25) dX10_begin_25 1 rfl ?_
      refine g_icmp_ge hX (pc := 27) (tgt := 47) dX10_begin_27 rfl (fun c4 => ?_) (fun c4 => ?_)
      · have d1 : i = min (List.length ges) (n - b) := by
          have := (nI_leI (by omega) (by omega)).mp c4
          omega
        refine g_aload_n hX (pc := 47) dX10_begin_47 2 rfl ?_
        refine g_iload_n hX (pc := 48) dX10_begin_48 3 rfl ?_
        refine g_put hX (pc := 49) fcX10 0 (fs1 := [.ref la, .int t, .int v, .int (nI n), .int bt, .ref sp]) (cs1 := [[(a, ob 9 [.ref la, .int t, .int v, .int (nI n), .int bt, .ref sp])], w1, fz]) rfl 3 (by decide) q850 rfl rfl rfl rfl (Nat.le_of_ble_eq_true rfl) rfl rfl dX10_begin_49 ?_
        refine g_aload_n hX (pc := 52) dX10_begin_52 2 rfl ?_
        refine g_iload_n hX (pc := 53) dX10_begin_53 4 rfl ?_
        refine g_put hX (pc := 54) fcX10 0 (fs1 := [.ref la, .int t, .int v, .int (nI n), .int nt, .ref sp]) (cs1 := [[(a, ob 9 [.ref la, .int t, .int v, .int (nI n), .int nt, .ref sp])], w1, fz]) rfl 4 (by decide) q854 rfl rfl rfl rfl (Nat.le_of_ble_eq_true rfl) rfl rfl dX10_begin_54 ?_
        refine g_aload_n hX (pc := 57) dX10_begin_57 2 rfl ?_
        refine g_aload_n hX (pc := 58) dX10_begin_58 5 rfl ?_
        refine g_put hX (pc := 59) fcX10 0 (fs1 := [.ref la, .int t, .int v, .int (nI n), .int nt, .ref ns]) (cs1 := [[(a, ob 9 [.ref la, .int t, .int v, .int (nI n), .int nt, .ref ns])], w1, fz]) rfl 5 (by decide) q856 rfl rfl rfl rfl (Nat.le_of_ble_eq_true rfl) rfl rfl dX10_begin_59 ?_
        refine g_vret hX (pc := 62) hR ?_ (by omega) (by omega) dX10_begin_62
        have e : List.drop (n - b) ges = List.drop i ges := by
          rcases Nat.le_total (List.length ges) (n - b) with h | h
          · rw [List.drop_of_length_le h, List.drop_of_length_le (by omega)]
          · rw [d1, Nat.min_eq_right h]
        rw [e]
        exact ⟨_, hE1, rfl, rfl⟩
      · have d1 : i < min (List.length ges) (n - b) := by
          have := mt (nI_leI (a := min (List.length ges) (n - b)) (b := i) (by omega) (by omega)).mpr c4
          omega
        have hdl : List.length (List.drop i ges) = List.length ges - i := List.length_drop
        obtain ⟨g, hg⟩ := get_ex (l := List.drop i ges) (i := 0) (by omega)
        have hdr : List.eraseIdx (List.drop i ges) 0 = List.drop (i + 1) ges := by
          rw [List.eraseIdx_zero, List.tail_drop]
        refine g_aload_n hX (pc := 30) dX10_begin_30 2 rfl ?_
        refine g_get hX (pc := 31) fcX10 0 rfl 0 (by decide) q839 rfl (v := .ref la) rfl dX10_begin_31 ?_
        refine g_iconst hX (pc := 34) (v := 0) dX10_begin_34 (by decide) ?_
        refine g_eqi (nI 0) (nI_0.symm) ?_
        obtain ⟨fs5, hm6⟩ := AL.head hE1.1
        refine g_callF hX (pc := 35) kfJ2_remove (mt_AL_remove E l la (List.map Prod.fst (List.drop i ges)) w1 0 g.1 fz hE1.1 (map_get hg) (en_ok hE1.2)) q1236 fcJ2 (sp_in 1 rfl hm6) [1, 1] rfl rfl rfl (Nat.le_of_ble_eq_true rfl) (Nat.le_of_ble_eq_true rfl) (Nat.le_of_ble_eq_true rfl) (by omega) (by omega) dX10_begin_35 (fun v w1 hp => ?_)
        obtain ⟨w17, h8, rfl, rfl⟩ := hp
        refine g_nrm (cs1 := [w17, fz, [(a, ob 9 [.ref la, .int t, .int v, .int (nI b), .int bt, .ref sp])]]) (st1 := [.ref g.1]) rfl rfl ?_
        refine g_pop hX (pc := 40) dX10_begin_40 rfl ?_
        refine g_iinc hX (pc := 41) (v := nI (i + 1)) (lv1 := [(5, .int (nI (i + 1))), (4, .int (nI (min (List.length ges) (n - b)))), (0, .ref a), (1, .int (nI n)), (2, .int nt), (3, .ref ns)]) dX10_begin_41 0 rfl (nI_1 _) (by decide) rfl ?_
        refine g_goto hX (pc := 44) (tgt := 23) dX10_begin_44 rfl ?_
        refine g_pk [2, 0, 0] rfl ?_
        refine g_cs (cs1 := [[(a, ob 9 [.ref la, .int t, .int v, .int (nI b), .int bt, .ref sp])], w17, fz]) rfl ?_
        refine g_widen (kc1 := 0) (ks1 := 0) (by omega) (by omega) ?_
        exact ih1 (i + 1) w17 (by omega) (by omega) (⟨by rw [← hdr, er_map]; exact h8, fun g hg => hE.2 g (List.mem_of_mem_drop hg)⟩)
  refine g_pk [1, 0, 0] rfl ?_
  refine g_cs (cs1 := [[(a, ob 9 [.ref la, .int t, .int v, .int (nI b), .int bt, .ref sp])], wl, fz]) rfl ?_
  refine g_widen (kc1 := 0) (ks1 := 0) (by omega) (by omega) ?_
  exact lp3 ((min (List.length ges) (n - b) - 0) + 1) 0 wl (Nat.lt_succ_self _) (Nat.zero_le _) (hE)
