set_option maxHeartbeats 4000000 in
theorem mt_Kp_init (E : EE) (l : Launch) (a : Nat) : Mt E l yX6_init cX6_init 1 none 4 8 34 72 [.ref a] [[(a, ob 5 [.int 0, .int 0, .int 0, .int 0, .null, .null])]] (fun (v_ : Option Value) (cs_ : List va_W) => ∃ (sp : Nat) (la : Nat) (ws : va_W) (w : va_W), IsMT E sp S0 ws ∧ ALc E la [] 0 w ∧ v_ = none ∧ cs_ = [[(a, ob 5 [.int 0, .int (-1), .int 0, .int 0, .ref sp, .ref la])], ws, w]) := by
  refine Mt.of (by decide) (Nat.le_of_ble_eq_true rfl) (fun X hX hR hin => ?_)
  refine g_lv1 (lv1 := [(0, .ref a)]) rfl ?_
  refine g_aload_n hX (pc := 0) dX6_init_0 0 rfl ?_
  refine g_objInit hX (pc := 1) q1619 q_oi1 q_oi2 (Nat.le_of_ble_eq_true rfl) (Nat.le_of_ble_eq_true rfl) dX6_init_1 ?_
  refine g_aload_n hX (pc := 4) dX6_init_4 0 rfl ?_
  refine g_iconst hX (pc := 5) (v := (-1)) dX6_init_5 (by decide) ?_
  refine g_put hX (pc := 6) fcX6 0 (fs1 := [.int 0, .int (-1), .int 0, .int 0, .null, .null]) (cs1 := [[(a, ob 5 [.int 0, .int (-1), .int 0, .int 0, .null, .null])]]) rfl 1 (by decide) q1658 rfl rfl rfl rfl (Nat.le_of_ble_eq_true rfl) rfl rfl dX6_init_6 ?_
  refine g_aload_n hX (pc := 9) dX6_init_9 0 rfl ?_
  refine g_new hX (pc := 10) fcX7 q1620 q1621 q78 (fs := [.null, .null, .null, .null, .int 0, .null, .null]) (fun j hj => by match j, hj with | 0, _ => rfl | 1, _ => rfl | 2, _ => rfl | 3, _ => rfl | 4, _ => rfl | 5, _ => rfl | 6, _ => rfl | j + 7, h => exact absurd h (by omega)) (Nat.le_of_ble_eq_true rfl) (Nat.le_of_ble_eq_true rfl) dX6_init_10 (fun q1 => ?_)
  refine g_dup hX (pc := 13) dX6_init_13 rfl ?_
  refine g_callIN hX (pc := 14) kX7_init (mt_MS_init E l q1) q1622 [0] rfl rfl rfl (Nat.le_of_ble_eq_true rfl) (Nat.le_of_ble_eq_true rfl) (Nat.le_of_ble_eq_true rfl) (Nat.le_of_ble_eq_true rfl) (Nat.le_of_ble_eq_true rfl) dX6_init_14 (fun v w1 hp => ?_)
  obtain ⟨w2, h3, rfl, rfl⟩ := hp
  refine g_nrm (cs1 := [w2, [(a, ob 5 [.int 0, .int (-1), .int 0, .int 0, .null, .null])]]) (st1 := [.ref q1, .ref a]) rfl rfl ?_
  refine g_put hX (pc := 17) fcX6 1 (fs1 := [.int 0, .int (-1), .int 0, .int 0, .ref q1, .null]) (cs1 := [w2, [(a, ob 5 [.int 0, .int (-1), .int 0, .int 0, .ref q1, .null])]]) rfl 4 (by decide) q1667 rfl rfl rfl rfl (Nat.le_of_ble_eq_true rfl) rfl rfl dX6_init_17 ?_
  refine g_aload_n hX (pc := 20) dX6_init_20 0 rfl ?_
  refine g_new hX (pc := 21) fcJ2 q1653 q127 q73 (fs := [.int 0, .null, .int 0]) (fun j hj => by match j, hj with | 0, _ => rfl | 1, _ => rfl | 2, _ => rfl | j + 3, h => exact absurd h (by omega)) (Nat.le_of_ble_eq_true rfl) (Nat.le_of_ble_eq_true rfl) dX6_init_21 (fun q4 => ?_)
  refine g_dup hX (pc := 24) dX6_init_24 rfl ?_
  refine g_callI hX (pc := 25) kJ2_init (mt_AL_init E l q4) q1654 [0] rfl rfl rfl (Nat.le_of_ble_eq_true rfl) (Nat.le_of_ble_eq_true rfl) (Nat.le_of_ble_eq_true rfl) (Nat.le_of_ble_eq_true rfl) (Nat.le_of_ble_eq_true rfl) dX6_init_25 (fun v w1 hp => ?_)
  obtain ⟨w5, h6, rfl, rfl⟩ := hp
  refine g_nrm (cs1 := [w5, w2, [(a, ob 5 [.int 0, .int (-1), .int 0, .int 0, .ref q1, .null])]]) (st1 := [.ref q4, .ref a]) rfl rfl ?_
  refine g_put hX (pc := 28) fcX6 2 (fs1 := [.int 0, .int (-1), .int 0, .int 0, .ref q1, .ref q4]) (cs1 := [w5, w2, [(a, ob 5 [.int 0, .int (-1), .int 0, .int 0, .ref q1, .ref q4])]]) rfl 5 (by decide) q1670 rfl rfl rfl rfl (Nat.le_of_ble_eq_true rfl) rfl rfl dX6_init_28 ?_
  refine g_pk [2, 1, 0] rfl ?_
  refine g_cs (cs1 := [[(a, ob 5 [.int 0, .int (-1), .int 0, .int 0, .ref q1, .ref q4])], w2, w5]) rfl ?_
  refine g_vret hX (pc := 31) hR ?_ (Nat.le_of_ble_eq_true rfl) (Nat.le_of_ble_eq_true rfl) dX6_init_31
  exact ⟨_, _, _, _, h3, h6, rfl, rfl⟩

set_option maxHeartbeats 4000000 in
theorem mt_Kp_last (E : EE) (l : Launch) (a : Nat) (t : Int32) (v : Int32) (b : Nat) (bt : Int32) (sp : Nat) (la : Nat) (fz : va_W) (ges : List (Nat × PEn)) (wl : va_W) (hE : MEL E fz la ges wl) : Mt E l yX6_last cX6_last 1 (some .int) 2 0 0 21 [.ref a] [[(a, ob 5 [.int t, .int v, .int (nI b), .int bt, .ref sp, .ref la])], wl] (fun (v_ : Option Value) (cs_ : List va_W) => v_ = some (.int (nI (b + List.length ges))) ∧ cs_ = [[(a, ob 5 [.int t, .int v, .int (nI b), .int bt, .ref sp, .ref la])], wl]) := by
  refine Mt.of (by decide) (Nat.le_of_ble_eq_true rfl) (fun X hX hR hin => ?_)
  refine g_lv1 (lv1 := [(0, .ref a)]) rfl ?_
  refine g_aload_n hX (pc := 0) dX6_last_0 0 rfl ?_
  refine g_get hX (pc := 1) fcX6 0 rfl 2 (by decide) q1661 rfl (v := .int (nI b)) rfl dX6_last_1 ?_
  refine g_aload_n hX (pc := 4) dX6_last_4 0 rfl ?_
  refine g_get hX (pc := 5) fcX6 0 rfl 5 (by decide) q1670 rfl (v := .ref la) rfl dX6_last_5 ?_
  obtain ⟨fs1, hm2⟩ := AL.head hE.1
  refine g_callV hX (pc := 8) kJ2_size (mt_AL_size E l la (List.map Prod.fst ges) wl hE.1) q1923 fcJ2 (sp_in 1 rfl hm2) [1] rfl rfl rfl (Nat.le_of_ble_eq_true rfl) (Nat.le_of_ble_eq_true rfl) (Nat.le_of_ble_eq_true rfl) (Nat.le_of_ble_eq_true rfl) (Nat.le_of_ble_eq_true rfl) dX6_last_8 (fun v w1 hp => ?_)
  obtain ⟨rfl, rfl⟩ := hp
  refine g_nrm (cs1 := [wl, [(a, ob 5 [.int t, .int v, .int (nI b), .int bt, .ref sp, .ref la])]]) (st1 := [.int (nI (List.length (List.map Prod.fst ges))), .int (nI b)]) rfl rfl ?_
  refine g_iadd hX (pc := 11) dX6_last_11 ?_
  refine g_pk [1, 0] rfl ?_
  refine g_cs (cs1 := [[(a, ob 5 [.int t, .int v, .int (nI b), .int bt, .ref sp, .ref la])], wl]) rfl ?_
  refine g_iret hX (pc := 12) hR ?_ (Nat.le_of_ble_eq_true rfl) (Nat.le_of_ble_eq_true rfl) dX6_last_12
  exact ⟨by rw [List.length_map, nI_add], rfl⟩

set_option maxHeartbeats 4000000 in
theorem mt_Kp_copy (E : EE) (l : Launch) (a : Nat) (t : Int32) (v : Int32) (b : Nat) (bt : Int32) (sp : Nat) (la : Nat) (fz : va_W) (ges : List (Nat × PEn)) (wl : va_W) (hE : MEL E fz la ges wl) : Mt E l yX6_copy cX6_copy 2 (some (.object "QuorumspireModel$Kept")) 5 11 (43 + List.length ges) 126 [.ref a] [[(a, ob 5 [.int t, .int v, .int (nI b), .int bt, .ref sp, .ref la])], wl, fz] (fun (v_ : Option Value) (cs_ : List va_W) => ∃ (q : Nat) (lb : Nat) (w1 : va_W), MEL E fz lb ges w1 ∧ v_ = some (.ref q) ∧ cs_ = [[(q, ob 5 [.int t, .int v, .int (nI b), .int bt, .ref sp, .ref lb])], w1, [(a, ob 5 [.int t, .int v, .int (nI b), .int bt, .ref sp, .ref la])], wl, fz]) := by
  have hlm : List.length (List.map Prod.fst ges) = List.length ges := List.length_map _
  refine Mt.of (by decide) (Nat.le_of_ble_eq_true rfl) (fun X hX hR hin => ?_)
  refine g_lv1 (lv1 := [(0, .ref a)]) rfl ?_
  refine g_new hX (pc := 0) fcX6 q1834 q1615 q77 (fs := [.int 0, .int 0, .int 0, .int 0, .null, .null]) (fun j hj => by match j, hj with | 0, _ => rfl | 1, _ => rfl | 2, _ => rfl | 3, _ => rfl | 4, _ => rfl | 5, _ => rfl | j + 6, h => exact absurd h (by omega)) (by omega) (by omega) dX6_copy_0 (fun q1 => ?_)
  refine g_dup hX (pc := 3) dX6_copy_3 rfl ?_
  refine g_callI hX (pc := 4) kX6_init (mt_Kp_init E l q1) q1835 [0] rfl rfl rfl (Nat.le_of_ble_eq_true rfl) (Nat.le_of_ble_eq_true rfl) (Nat.le_of_ble_eq_true rfl) (by omega) (by omega) dX6_copy_4 (fun v w1 hp => ?_)
  obtain ⟨sp2, la3, ws4, w5, h6, h7, rfl, rfl⟩ := hp
  refine g_nrm (cs1 := [[(q1, ob 5 [.int 0, .int (-1), .int 0, .int 0, .ref sp2, .ref la3])], ws4, w5, [(a, ob 5 [.int t, .int v, .int (nI b), .int bt, .ref sp, .ref la])], wl, fz]) (st1 := [.ref q1]) rfl rfl ?_
  refine g_astore_n hX (pc := 7) (lv1 := [(1, .ref q1), (0, .ref a)]) dX6_copy_7 (by decide) rfl ?_
  refine g_aload_n hX (pc := 8) dX6_copy_8 0 rfl ?_
  refine g_aload_n hX (pc := 9) dX6_copy_9 1 rfl ?_
  refine g_get hX (pc := 10) fcX6 3 rfl 0 (by decide) q1655 rfl (v := .int t) rfl dX6_copy_10 ?_
  refine g_put hX (pc := 13) fcX6 0 (fs1 := [.int t, .int (-1), .int 0, .int 0, .ref sp2, .ref la3]) (cs1 := [[(q1, ob 5 [.int t, .int (-1), .int 0, .int 0, .ref sp2, .ref la3])], ws4, w5, [(a, ob 5 [.int t, .int v, .int (nI b), .int bt, .ref sp, .ref la])], wl, fz]) rfl 0 (by decide) q1655 rfl rfl rfl rfl (Nat.le_of_ble_eq_true rfl) rfl rfl dX6_copy_13 ?_
  refine g_aload_n hX (pc := 16) dX6_copy_16 0 rfl ?_
  refine g_aload_n hX (pc := 17) dX6_copy_17 1 rfl ?_
  refine g_get hX (pc := 18) fcX6 3 rfl 1 (by decide) q1658 rfl (v := .int v) rfl dX6_copy_18 ?_
  refine g_put hX (pc := 21) fcX6 0 (fs1 := [.int t, .int v, .int 0, .int 0, .ref sp2, .ref la3]) (cs1 := [[(q1, ob 5 [.int t, .int v, .int 0, .int 0, .ref sp2, .ref la3])], ws4, w5, [(a, ob 5 [.int t, .int v, .int (nI b), .int bt, .ref sp, .ref la])], wl, fz]) rfl 1 (by decide) q1658 rfl rfl rfl rfl (Nat.le_of_ble_eq_true rfl) rfl rfl dX6_copy_21 ?_
  refine g_aload_n hX (pc := 24) dX6_copy_24 0 rfl ?_
  refine g_aload_n hX (pc := 25) dX6_copy_25 1 rfl ?_
  refine g_get hX (pc := 26) fcX6 3 rfl 2 (by decide) q1661 rfl (v := .int (nI b)) rfl dX6_copy_26 ?_
  refine g_put hX (pc := 29) fcX6 0 (fs1 := [.int t, .int v, .int (nI b), .int 0, .ref sp2, .ref la3]) (cs1 := [[(q1, ob 5 [.int t, .int v, .int (nI b), .int 0, .ref sp2, .ref la3])], ws4, w5, [(a, ob 5 [.int t, .int v, .int (nI b), .int bt, .ref sp, .ref la])], wl, fz]) rfl 2 (by decide) q1661 rfl rfl rfl rfl (Nat.le_of_ble_eq_true rfl) rfl rfl dX6_copy_29 ?_
  refine g_aload_n hX (pc := 32) dX6_copy_32 0 rfl ?_
  refine g_aload_n hX (pc := 33) dX6_copy_33 1 rfl ?_
  refine g_get hX (pc := 34) fcX6 3 rfl 3 (by decide) q1664 rfl (v := .int bt) rfl dX6_copy_34 ?_
  refine g_put hX (pc := 37) fcX6 0 (fs1 := [.int t, .int v, .int (nI b), .int bt, .ref sp2, .ref la3]) (cs1 := [[(q1, ob 5 [.int t, .int v, .int (nI b), .int bt, .ref sp2, .ref la3])], ws4, w5, [(a, ob 5 [.int t, .int v, .int (nI b), .int bt, .ref sp, .ref la])], wl, fz]) rfl 3 (by decide) q1664 rfl rfl rfl rfl (Nat.le_of_ble_eq_true rfl) rfl rfl dX6_copy_37 ?_
  refine g_aload_n hX (pc := 40) dX6_copy_40 0 rfl ?_
  refine g_aload_n hX (pc := 41) dX6_copy_41 1 rfl ?_
  refine g_get hX (pc := 42) fcX6 3 rfl 4 (by decide) q1667 rfl (v := .ref sp) rfl dX6_copy_42 ?_
  refine g_put hX (pc := 45) fcX6 0 (fs1 := [.int t, .int v, .int (nI b), .int bt, .ref sp, .ref la3]) (cs1 := [[(q1, ob 5 [.int t, .int v, .int (nI b), .int bt, .ref sp, .ref la3])], ws4, w5, [(a, ob 5 [.int t, .int v, .int (nI b), .int bt, .ref sp, .ref la])], wl, fz]) rfl 4 (by decide) q1667 rfl rfl rfl rfl (Nat.le_of_ble_eq_true rfl) rfl rfl dX6_copy_45 ?_
  refine g_aload_n hX (pc := 48) dX6_copy_48 0 rfl ?_
  refine g_new hX (pc := 49) fcJ2 q1653 q127 q73 (fs := [.int 0, .null, .int 0]) (fun j hj => by match j, hj with | 0, _ => rfl | 1, _ => rfl | 2, _ => rfl | j + 3, h => exact absurd h (by omega)) (by omega) (by omega) dX6_copy_49 (fun q8 => ?_)
  refine g_dup hX (pc := 52) dX6_copy_52 rfl ?_
  refine g_aload_n hX (pc := 53) dX6_copy_53 1 rfl ?_
  refine g_get hX (pc := 54) fcX6 4 rfl 5 (by decide) q1670 rfl (v := .ref la) rfl dX6_copy_54 ?_
  refine g_callI hX (pc := 57) kJ2_init_2 (mt_AL_initC E l q8 la (List.map Prod.fst ges) wl fz hE.1 (men_ok hE.2)) q1836 [0, 4, 4] rfl rfl rfl (Nat.le_of_ble_eq_true rfl) (Nat.le_of_ble_eq_true rfl) (Nat.le_of_ble_eq_true rfl) (by omega) (by omega) dX6_copy_57 (fun v w1 hp => ?_)
  obtain ⟨w19, h10, rfl, rfl⟩ := hp
  refine g_nrm (cs1 := [w19, wl, fz, [(q1, ob 5 [.int t, .int v, .int (nI b), .int bt, .ref sp, .ref la3])], ws4, w5, [(a, ob 5 [.int t, .int v, .int (nI b), .int bt, .ref sp, .ref la])]]) (st1 := [.ref q8, .ref q1]) rfl rfl ?_
  refine g_put hX (pc := 60) fcX6 3 (fs1 := [.int t, .int v, .int (nI b), .int bt, .ref sp, .ref q8]) (cs1 := [w19, wl, fz, [(q1, ob 5 [.int t, .int v, .int (nI b), .int bt, .ref sp, .ref q8])], ws4, w5, [(a, ob 5 [.int t, .int v, .int (nI b), .int bt, .ref sp, .ref la])]]) rfl 5 (by decide) q1670 rfl rfl rfl rfl (Nat.le_of_ble_eq_true rfl) rfl rfl dX6_copy_60 ?_
  refine g_drop (cs1 := [w19, wl, fz, [(q1, ob 5 [.int t, .int v, .int (nI b), .int bt, .ref sp, .ref q8])], w5, [(a, ob 5 [.int t, .int v, .int (nI b), .int bt, .ref sp, .ref la])]]) [4] rfl ?_
  refine g_drop (cs1 := [w19, wl, fz, [(q1, ob 5 [.int t, .int v, .int (nI b), .int bt, .ref sp, .ref q8])], [(a, ob 5 [.int t, .int v, .int (nI b), .int bt, .ref sp, .ref la])]]) [4] rfl ?_
  refine g_aload_n hX (pc := 63) dX6_copy_63 0 rfl ?_
  refine g_pk [3, 0, 2, 0, 0] rfl ?_
  refine g_cs (cs1 := [[(q1, ob 5 [.int t, .int v, .int (nI b), .int bt, .ref sp, .ref q8])], w19, [(a, ob 5 [.int t, .int v, .int (nI b), .int bt, .ref sp, .ref la])], wl, fz]) rfl ?_
  refine g_aret hX (pc := 64) hR (by first | exact Or.inl ⟨_, rfl⟩ | exact Or.inr ⟨_, rfl⟩) ?_ (by omega) (by omega) dX6_copy_64
  exact ⟨_, _, _, ⟨h10, hE.2⟩, rfl, rfl⟩

set_option maxHeartbeats 4000000 in
theorem mt_Kp_has (E : EE) (l : Launch) (a : Nat) (t : Int32) (v : Int32) (b : Nat) (bt : Int32) (sp : Nat) (la : Nat) (fz : va_W) (ges : List (Nat × PEn)) (wl : va_W) (n : Nat) (hE : MEL E fz la ges wl) (hb : (b + List.length ges ≤ 1000000)) (hn : (n ≤ 1000000)) : Mt E l yX6_has cX6_has 2 (some .boolean) 3 0 0 41 [.ref a, .int (nI n)] [[(a, ob 5 [.int t, .int v, .int (nI b), .int bt, .ref sp, .ref la])], wl] (fun (v_ : Option Value) (cs_ : List va_W) => v_ = some (.int (if b < n ∧ n ≤ b + List.length ges then 1 else 0)) ∧ cs_ = [[(a, ob 5 [.int t, .int v, .int (nI b), .int bt, .ref sp, .ref la])], wl]) := by
  refine Mt.of (by decide) (Nat.le_of_ble_eq_true rfl) (fun X hX hR hin => ?_)
  refine g_lv1 (lv1 := [(0, .ref a), (1, .int (nI n))]) rfl ?_
  refine g_iload_n hX (pc := 0) dX6_has_0 1 rfl ?_
  refine g_aload_n hX (pc := 1) dX6_has_1 0 rfl ?_
  refine g_get hX (pc := 2) fcX6 0 rfl 2 (by decide) q1661 rfl (v := .int (nI b)) rfl dX6_has_2 ?_
  refine g_icmp_le hX (pc := 5) (tgt := 20) dX6_has_5 rfl (fun c1 => ?_) (fun c1 => ?_)
  · refine g_iconst hX (pc := 20) (v := 0) dX6_has_20 (by decide) ?_
    refine g_zret hX (pc := 21) hR rfl ?_ (Nat.le_of_ble_eq_true rfl) (Nat.le_of_ble_eq_true rfl) dX6_has_21
    refine ⟨?_, rfl⟩
    have d1 := (nI_leI (by omega) (by omega)).mp c1
    rw [if_neg (by omega)]
  · refine g_iload_n hX (pc := 8) dX6_has_8 1 rfl ?_
    refine g_aload_n hX (pc := 9) dX6_has_9 0 rfl ?_
    refine g_callV hX (pc := 10) kX6_last (mt_Kp_last E l a t v b bt sp la fz ges wl hE) q2102 fcX6 (sp_mem (i := 0) rfl) [0, 0] rfl rfl rfl (Nat.le_of_ble_eq_true rfl) (Nat.le_of_ble_eq_true rfl) (Nat.le_of_ble_eq_true rfl) (Nat.le_of_ble_eq_true rfl) (Nat.le_of_ble_eq_true rfl) dX6_has_10 (fun v w1 hp => ?_)
    obtain ⟨rfl, rfl⟩ := hp
    refine g_nrm (cs1 := [[(a, ob 5 [.int t, .int v, .int (nI b), .int bt, .ref sp, .ref la])], wl]) (st1 := [.int (nI (b + List.length ges)), .int (nI n)]) rfl rfl ?_
    refine g_val (v := if (nI (b + List.length ges)) < (nI n) then 0 else 1) (pcJ := 21) (st1 := []) (fun hj2 => ?_) ?_
    · refine g_icmp_gt hX (pc := 13) (tgt := 20) dX6_has_13 rfl (fun c3 => ?_) (fun c3 => ?_)
      · refine g_iconst hX (pc := 20) (v := 0) dX6_has_20 (by decide) ?_
        exact hj2 _ (by rw [if_pos c3])
      · refine g_iconst hX (pc := 16) (v := 1) dX6_has_16 (by decide) ?_
        refine g_goto hX (pc := 17) (tgt := 21) dX6_has_17 rfl ?_
        exact hj2 _ (by rw [if_neg c3])
    refine g_zret hX (pc := 21) hR (nz01 _) ?_ (Nat.le_of_ble_eq_true rfl) (Nat.le_of_ble_eq_true rfl) dX6_has_21
    refine ⟨?_, rfl⟩
    have d1 := mt (nI_leI (by omega) (by omega)).mpr c1
    have e2 : (nI (b + List.length ges) < nI n) ↔ b + List.length ges < n := nI_ltI (by omega) (by omega)
    simp only [e2]
    by_cases h : b + List.length ges < n
    · rw [if_pos h, if_neg (by omega)]
    · rw [if_neg h, if_pos ⟨by omega, by omega⟩]

set_option maxHeartbeats 4000000 in
theorem mt_Kp_at (E : EE) (l : Launch) (a : Nat) (t : Int32) (v : Int32) (b : Nat) (bt : Int32) (sp : Nat) (la : Nat) (fz : va_W) (ges : List (Nat × PEn)) (wl : va_W) (n : Nat) (g : Nat × PEn) (hE : MEL E fz la ges wl) (hg : (ges[n - b - 1]? = some g)) (hbn : (b < n)) (hn : (n ≤ 1000000)) : Mt E l yX6_at cX6_at 2 (some (.array .int)) 4 0 0 65 [.ref a, .int (nI n)] [[(a, ob 5 [.int t, .int v, .int (nI b), .int bt, .ref sp, .ref la])], wl, fz] (fun (v_ : Option Value) (cs_ : List va_W) => v_ = some (.ref g.1) ∧ cs_ = [[(a, ob 5 [.int t, .int v, .int (nI b), .int bt, .ref sp, .ref la])], wl, fz]) := by
  have hz := men_at hE.2 hg
  refine Mt.of (by decide) (Nat.le_of_ble_eq_true rfl) (fun X hX hR hin => ?_)
  refine g_lv1 (lv1 := [(0, .ref a), (1, .int (nI n))]) rfl ?_
  refine g_aload_n hX (pc := 0) dX6_at_0 0 rfl ?_
  refine g_get hX (pc := 1) fcX6 0 rfl 5 (by decide) q1670 rfl (v := .ref la) rfl dX6_at_1 ?_
  refine g_iload_n hX (pc := 4) dX6_at_4 1 rfl ?_
  refine g_aload_n hX (pc := 5) dX6_at_5 0 rfl ?_
  refine g_get hX (pc := 6) fcX6 0 rfl 2 (by decide) q1661 rfl (v := .int (nI b)) rfl dX6_at_6 ?_
  refine g_isub hX (pc := 9) dX6_at_9 ?_
  refine g_iconst hX (pc := 10) (v := 1) dX6_at_10 (by decide) ?_
  refine g_isub hX (pc := 11) dX6_at_11 ?_
  refine g_eqi (nI (n - b - 1)) (by rw [pk_sub (by omega), show (1 : Int32) = nI 1 from rfl, pk_sub (by omega)]) ?_
  obtain ⟨fs1, hm2⟩ := AL.head hE.1
  refine g_callV hX (pc := 12) kJ2_get (mt_AL_get E l la (List.map Prod.fst ges) wl (n - b - 1) g.1 hE.1 (map_get hg)) q1932 fcJ2 (sp_in 1 rfl hm2) [1] rfl rfl rfl (Nat.le_of_ble_eq_true rfl) (Nat.le_of_ble_eq_true rfl) (Nat.le_of_ble_eq_true rfl) (Nat.le_of_ble_eq_true rfl) (Nat.le_of_ble_eq_true rfl) dX6_at_12 (fun v w1 hp => ?_)
  obtain ⟨rfl, rfl⟩ := hp
  refine g_nrm (cs1 := [wl, [(a, ob 5 [.int t, .int v, .int (nI b), .int bt, .ref sp, .ref la])], fz]) (st1 := [.ref g.1]) rfl rfl ?_
  refine g_castA hX (pc := 15) (sp_in 2 rfl hz) q1933 dX6_at_15 ?_
  refine g_pk [1, 0, 0] rfl ?_
  refine g_cs (cs1 := [[(a, ob 5 [.int t, .int v, .int (nI b), .int bt, .ref sp, .ref la])], wl, fz]) rfl ?_
  refine g_aret hX (pc := 18) hR (by first | exact Or.inl ⟨_, rfl⟩ | exact Or.inr ⟨_, rfl⟩) ?_ (Nat.le_of_ble_eq_true rfl) (Nat.le_of_ble_eq_true rfl) dX6_at_18
  exact ⟨rfl, rfl⟩

set_option maxHeartbeats 4000000 in
theorem mt_Kp_termOf (E : EE) (l : Launch) (a : Nat) (t : Int32) (v : Int32) (b : Nat) (bt : Int32) (sp : Nat) (la : Nat) (fz : va_W) (ges : List (Nat × PEn)) (wl : va_W) (n : Nat) (g : Nat × PEn) (hE : MEL E fz la ges wl) (hg : (¬ n = b → ges[n - b - 1]? = some g ∧ b < n)) (hn : (n ≤ 1000000)) (hb : (b ≤ 1000000)) : Mt E l yX6_termOf cX6_termOf 2 (some .int) 5 0 0 86 [.ref a, .int (nI n)] [[(a, ob 5 [.int t, .int v, .int (nI b), .int bt, .ref sp, .ref la])], wl, fz] (fun (v_ : Option Value) (cs_ : List va_W) => v_ = some (.int (if n = b then bt else g.2.1)) ∧ cs_ = [[(a, ob 5 [.int t, .int v, .int (nI b), .int bt, .ref sp, .ref la])], wl, fz]) := by
  refine Mt.of (by decide) (Nat.le_of_ble_eq_true rfl) (fun X hX hR hin => ?_)
  refine g_lv1 (lv1 := [(0, .ref a), (1, .int (nI n))]) rfl ?_
  refine g_iload_n hX (pc := 0) dX6_termOf_0 1 rfl ?_
  refine g_aload_n hX (pc := 1) dX6_termOf_1 0 rfl ?_
  refine g_get hX (pc := 2) fcX6 0 rfl 2 (by decide) q1661 rfl (v := .int (nI b)) rfl dX6_termOf_2 ?_
  refine g_icmp_ne hX (pc := 5) (tgt := 15) dX6_termOf_5 rfl (fun c1 => ?_) (fun c1 => ?_)
  · have d1 : ¬ n = b := mt (nI_eq (by omega) (by omega)).mpr c1
    obtain ⟨hg1, hg2⟩ := hg d1
    have hz := men_at hE.2 hg1
    refine g_aload_n hX (pc := 15) dX6_termOf_15 0 rfl ?_
    refine g_iload_n hX (pc := 16) dX6_termOf_16 1 rfl ?_
    refine g_callV hX (pc := 17) kX6_at (mt_Kp_at E l a t v b bt sp la fz ges wl n g hE (hg1) (hg2) (hn)) q1928 fcX6 (sp_mem (i := 0) rfl) [0, 0, 0] rfl rfl rfl (Nat.le_of_ble_eq_true rfl) (Nat.le_of_ble_eq_true rfl) (Nat.le_of_ble_eq_true rfl) (Nat.le_of_ble_eq_true rfl) (Nat.le_of_ble_eq_true rfl) dX6_termOf_17 (fun v w1 hp => ?_)
    obtain ⟨rfl, rfl⟩ := hp
    refine g_nrm (cs1 := [[(a, ob 5 [.int t, .int v, .int (nI b), .int bt, .ref sp, .ref la])], wl, fz]) (st1 := [.ref g.1]) rfl rfl ?_
    refine g_iconst hX (pc := 20) (v := 0) dX6_termOf_20 (by decide) ?_
    refine g_iald hX (pc := 21) (sp_in 2 rfl hz) (v := g.2.1) (by unfold vp_in; decide) rfl dX6_termOf_21 ?_
    refine g_iret hX (pc := 22) hR ?_ (Nat.le_of_ble_eq_true rfl) (Nat.le_of_ble_eq_true rfl) dX6_termOf_22
    exact ⟨by rw [if_neg d1], rfl⟩
  · have d1 : n = b := (nI_eq (by omega) (by omega)).mp c1
    refine g_aload_n hX (pc := 8) dX6_termOf_8 0 rfl ?_
    refine g_get hX (pc := 9) fcX6 0 rfl 3 (by decide) q1664 rfl (v := .int bt) rfl dX6_termOf_9 ?_
    refine g_goto hX (pc := 12) (tgt := 22) dX6_termOf_12 rfl ?_
    refine g_iret hX (pc := 22) hR ?_ (Nat.le_of_ble_eq_true rfl) (Nat.le_of_ble_eq_true rfl) dX6_termOf_22
    exact ⟨by rw [if_pos d1], rfl⟩

set_option maxHeartbeats 4000000 in
theorem mt_Kp_lastF (E : EE) (l : Launch) (a : Nat) (L : PL) (fz : va_W) (hK : KpIn E fz a L) : Mt E l yX6_last cX6_last 1 (some .int) 2 0 0 21 [.ref a] [fz] (fun (v_ : Option Value) (cs_ : List va_W) => v_ = some (.int (nI (lLast L))) ∧ cs_ = [fz]) := by
  obtain ⟨wk, ⟨la, sp, ges, wl, hE, hges, hsp, rfl⟩, hsub⟩ := hK
  have hlen : List.length ges = List.length (lE L) := by rw [← hges, List.length_map]
  obtain ⟨hA, hZ⟩ := hE
  obtain ⟨m0, arr, cap, f, h1, h2, h3, h4⟩ := hA
  rw [List.length_map] at h1 h3
  have hm1 := hsub _ List.mem_cons_self
  have hm2 : (la, ob 15 [.int m0, .ref arr, .int (nI (List.length (lE L)))]) ∈ fz := by
    refine hsub _ (List.mem_cons_of_mem _ ?_)
    rcases h4 with ⟨-, h⟩ | ⟨-, -, h⟩ <;> rw [h, List.length_map, hlen] <;> exact List.mem_cons_self
  refine Mt.of (by decide) (Nat.le_of_ble_eq_true rfl) (fun X hX hR hin => ?_)
  refine g_lv1 (lv1 := [(0, .ref a)]) rfl ?_
  refine g_aload_n hX (pc := 0) dX6_last_0 0 rfl ?_
  refine g_getm hX (pc := 1) fcX6 (sp_in 0 rfl hm1) 2 (by decide) q1661 rfl (v := .int (nI (lB L))) rfl dX6_last_1 ?_
  refine g_aload_n hX (pc := 4) dX6_last_4 0 rfl ?_
  refine g_getm hX (pc := 5) fcX6 (sp_in 0 rfl hm1) 5 (by decide) q1670 rfl (v := .ref la) rfl dX6_last_5 ?_
  refine g_callV hX (pc := 8) kJ2_size (mt_AL_sizeM E l la m0 arr (nI (List.length (lE L))) fz (hm2)) q1923 fcJ2 (sp_in 0 rfl hm2) [0] rfl rfl rfl (Nat.le_of_ble_eq_true rfl) (Nat.le_of_ble_eq_true rfl) (Nat.le_of_ble_eq_true rfl) (Nat.le_of_ble_eq_true rfl) (Nat.le_of_ble_eq_true rfl) dX6_last_8 (fun v w1 hp => ?_)
  obtain ⟨rfl, rfl⟩ := hp
  refine g_nrm (cs1 := [fz]) (st1 := [.int (nI (List.length (lE L))), .int (nI (lB L))]) rfl rfl ?_
  refine g_iadd hX (pc := 11) dX6_last_11 ?_
  refine g_iret hX (pc := 12) hR ?_ (Nat.le_of_ble_eq_true rfl) (Nat.le_of_ble_eq_true rfl) dX6_last_12
  exact ⟨by rw [nI_add], rfl⟩

set_option maxHeartbeats 4000000 in
theorem mt_Kp_hasF (E : EE) (l : Launch) (a : Nat) (L : PL) (fz : va_W) (n : Nat) (hK : KpIn E fz a L) (hb : (lLast L ≤ 1000000)) (hn : (n ≤ 1000000)) : Mt E l yX6_has cX6_has 2 (some .boolean) 3 0 0 41 [.ref a, .int (nI n)] [fz] (fun (v_ : Option Value) (cs_ : List va_W) => v_ = some (.int (if lB L < n ∧ n ≤ lLast L then 1 else 0)) ∧ cs_ = [fz]) := by
  have hK0 := hK
  obtain ⟨wk, ⟨la, sp, ges, wl, hE, hges, hsp, rfl⟩, hsub⟩ := hK0
  have hlen : List.length ges = List.length (lE L) := by rw [← hges, List.length_map]
  obtain ⟨hA, hZ⟩ := hE
  obtain ⟨m0, arr, cap, f, h1, h2, h3, h4⟩ := hA
  rw [List.length_map] at h1 h3
  have hm1 := hsub _ List.mem_cons_self
  have hm2 : (la, ob 15 [.int m0, .ref arr, .int (nI (List.length (lE L)))]) ∈ fz := by
    refine hsub _ (List.mem_cons_of_mem _ ?_)
    rcases h4 with ⟨-, h⟩ | ⟨-, -, h⟩ <;> rw [h, List.length_map, hlen] <;> exact List.mem_cons_self
  have hlb : lB L ≤ lLast L := Nat.le_add_right _ _
  refine Mt.of (by decide) (Nat.le_of_ble_eq_true rfl) (fun X hX hR hin => ?_)
  refine g_lv1 (lv1 := [(0, .ref a), (1, .int (nI n))]) rfl ?_
  refine g_iload_n hX (pc := 0) dX6_has_0 1 rfl ?_
  refine g_aload_n hX (pc := 1) dX6_has_1 0 rfl ?_
  refine g_getm hX (pc := 2) fcX6 (sp_in 0 rfl hm1) 2 (by decide) q1661 rfl (v := .int (nI (lB L))) rfl dX6_has_2 ?_
  refine g_icmp_le hX (pc := 5) (tgt := 20) dX6_has_5 rfl (fun c1 => ?_) (fun c1 => ?_)
  · refine g_iconst hX (pc := 20) (v := 0) dX6_has_20 (by decide) ?_
    refine g_zret hX (pc := 21) hR rfl ?_ (Nat.le_of_ble_eq_true rfl) (Nat.le_of_ble_eq_true rfl) dX6_has_21
    refine ⟨?_, rfl⟩
    have d1 := (nI_leI (by omega) (by omega)).mp c1
    rw [if_neg (by omega)]
  · refine g_iload_n hX (pc := 8) dX6_has_8 1 rfl ?_
    refine g_aload_n hX (pc := 9) dX6_has_9 0 rfl ?_
    refine g_callV hX (pc := 10) kX6_last (mt_Kp_lastF E l a L fz (hK)) q2102 fcX6 (sp_in 0 rfl hm1) [0] rfl rfl rfl (Nat.le_of_ble_eq_true rfl) (Nat.le_of_ble_eq_true rfl) (Nat.le_of_ble_eq_true rfl) (Nat.le_of_ble_eq_true rfl) (Nat.le_of_ble_eq_true rfl) dX6_has_10 (fun v w1 hp => ?_)
    obtain ⟨rfl, rfl⟩ := hp
    refine g_nrm (cs1 := [fz]) (st1 := [.int (nI (lLast L)), .int (nI n)]) rfl rfl ?_
    refine g_val (v := if (nI (lLast L)) < (nI n) then 0 else 1) (pcJ := 21) (st1 := []) (fun hj2 => ?_) ?_
    · refine g_icmp_gt hX (pc := 13) (tgt := 20) dX6_has_13 rfl (fun c3 => ?_) (fun c3 => ?_)
      · refine g_iconst hX (pc := 20) (v := 0) dX6_has_20 (by decide) ?_
        exact hj2 _ (by rw [if_pos c3])
      · refine g_iconst hX (pc := 16) (v := 1) dX6_has_16 (by decide) ?_
        refine g_goto hX (pc := 17) (tgt := 21) dX6_has_17 rfl ?_
        exact hj2 _ (by rw [if_neg c3])
    refine g_zret hX (pc := 21) hR (nz01 _) ?_ (Nat.le_of_ble_eq_true rfl) (Nat.le_of_ble_eq_true rfl) dX6_has_21
    refine ⟨?_, rfl⟩
    have d1 := mt (nI_leI (by omega) (by omega)).mpr c1
    have e2 : (nI (lLast L) < nI n) ↔ lLast L < n := nI_ltI (by omega) (by omega)
    simp only [e2]
    by_cases h : lLast L < n
    · rw [if_pos h, if_neg (by omega)]
    · rw [if_neg h, if_pos ⟨by omega, by omega⟩]

set_option maxHeartbeats 4000000 in
theorem mt_Kp_atF (E : EE) (l : Launch) (a : Nat) (L : PL) (fz : va_W) (n : Nat) (e : PEn) (hK : KpIn E fz a L) (hg : ((lE L)[n - lB L - 1]? = some e)) (hbn : (lB L < n)) (hn : (n ≤ 1000000)) : Mt E l yX6_at cX6_at 2 (some (.array .int)) 4 0 0 65 [.ref a, .int (nI n)] [fz] (fun (v_ : Option Value) (cs_ : List va_W) => ∃ (y : Nat), ((y, enM E e) ∈ fz) ∧ v_ = some (.ref y) ∧ cs_ = [fz]) := by
  obtain ⟨wk, ⟨la, sp, ges, wl, hE, hges, hsp, rfl⟩, hsub⟩ := hK
  have hlen : List.length ges = List.length (lE L) := by rw [← hges, List.length_map]
  obtain ⟨hA, hZ⟩ := hE
  obtain ⟨m0, arr, cap, f, h1, h2, h3, h4⟩ := hA
  rw [List.length_map] at h1 h3
  have hm1 := hsub _ List.mem_cons_self
  have hm2 : (la, ob 15 [.int m0, .ref arr, .int (nI (List.length (lE L)))]) ∈ fz := by
    refine hsub _ (List.mem_cons_of_mem _ ?_)
    rcases h4 with ⟨-, h⟩ | ⟨-, -, h⟩ <;> rw [h, List.length_map, hlen] <;> exact List.mem_cons_self
  have hi : n - lB L - 1 < List.length (lE L) := (List.getElem?_eq_some_iff.mp hg).1
  obtain ⟨g, hgg⟩ := get_ex (l := ges) (i := n - lB L - 1) (by omega)
  have hge : g.2 = e := by
    have := hg
    rw [← hges, List.getElem?_map, hgg] at this
    exact Option.some.inj this
  subst hge
  have hz := hZ g (List.mem_of_getElem? hgg)
  have hfy : f (n - lB L - 1) = some g.1 := by rw [h3 _ (by omega), List.getElem?_map, hgg]; rfl
  have hm3 : (arr, qA (aC E 2) cap f) ∈ fz := by
    refine hsub _ (List.mem_cons_of_mem _ ?_)
    rcases h4 with ⟨-, h⟩ | ⟨h, -⟩
    · rw [h]; exact List.mem_cons_of_mem _ List.mem_cons_self
    · omega
  refine Mt.of (by decide) (Nat.le_of_ble_eq_true rfl) (fun X hX hR hin => ?_)
  refine g_lv1 (lv1 := [(0, .ref a), (1, .int (nI n))]) rfl ?_
  refine g_aload_n hX (pc := 0) dX6_at_0 0 rfl ?_
  refine g_getm hX (pc := 1) fcX6 (sp_in 0 rfl hm1) 5 (by decide) q1670 rfl (v := .ref la) rfl dX6_at_1 ?_
  refine g_iload_n hX (pc := 4) dX6_at_4 1 rfl ?_
  refine g_aload_n hX (pc := 5) dX6_at_5 0 rfl ?_
  refine g_getm hX (pc := 6) fcX6 (sp_in 0 rfl hm1) 2 (by decide) q1661 rfl (v := .int (nI (lB L))) rfl dX6_at_6 ?_
  refine g_isub hX (pc := 9) dX6_at_9 ?_
  refine g_iconst hX (pc := 10) (v := 1) dX6_at_10 (by decide) ?_
  refine g_isub hX (pc := 11) dX6_at_11 ?_
  refine g_eqi (nI (n - lB L - 1)) (by rw [pk_sub (by omega), show (1 : Int32) = nI 1 from rfl, pk_sub (by omega)]) ?_
  refine g_callV hX (pc := 12) kJ2_get (mt_AL_getM E l la m0 arr (List.length (lE L)) cap f (n - lB L - 1) g.1 fz (hm2) (hm3) (hi) (by omega) (h2) (hfy)) q1932 fcJ2 (sp_in 0 rfl hm2) [0] rfl rfl rfl (Nat.le_of_ble_eq_true rfl) (Nat.le_of_ble_eq_true rfl) (Nat.le_of_ble_eq_true rfl) (Nat.le_of_ble_eq_true rfl) (Nat.le_of_ble_eq_true rfl) dX6_at_12 (fun v w1 hp => ?_)
  obtain ⟨rfl, rfl⟩ := hp
  refine g_nrm (cs1 := [fz]) (st1 := [.ref g.1]) rfl rfl ?_
  refine g_castA hX (pc := 15) (sp_in 0 rfl hz) q1933 dX6_at_15 ?_
  refine g_aret hX (pc := 18) hR (by first | exact Or.inl ⟨_, rfl⟩ | exact Or.inr ⟨_, rfl⟩) ?_ (Nat.le_of_ble_eq_true rfl) (Nat.le_of_ble_eq_true rfl) dX6_at_18
  exact ⟨_, hz, rfl, rfl⟩

set_option maxHeartbeats 4000000 in
theorem mt_GM_init (E : EE) (l : Launch) (a : Nat) (kd : Int32) (fr : Int32) (to : Int32) (tm : Int32) : Mt E l yX15_init cX15_init 5 none 4 1 3 72 [.ref a, .int kd, .int fr, .int to, .int tm] [[(a, ob 13 [.int 0, .int 0, .int 0, .int 0, .int 0, .int 0, .int 0, .int 0, .null, .null])]] (fun (v_ : Option Value) (cs_ : List va_W) => ∃ (la : Nat) (w : va_W), ALc E la [] 0 w ∧ v_ = none ∧ cs_ = [[(a, ob 13 [.int kd, .int fr, .int to, .int tm, .int 0, .int 0, .int 0, .int 0, .ref la, .null])], w]) := by
  refine Mt.of (by decide) (Nat.le_of_ble_eq_true rfl) (fun X hX hR hin => ?_)
  refine g_lv1 (lv1 := [(0, .ref a), (1, .int kd), (2, .int fr), (3, .int to), (4, .int tm)]) rfl ?_
  refine g_aload_n hX (pc := 0) dX15_init_0 0 rfl ?_
  refine g_objInit hX (pc := 1) q1873 q_oi1 q_oi2 (Nat.le_of_ble_eq_true rfl) (Nat.le_of_ble_eq_true rfl) dX15_init_1 ?_
  refine g_aload_n hX (pc := 4) dX15_init_4 0 rfl ?_
  refine g_new hX (pc := 5) fcJ2 q1874 q127 q73 (fs := [.int 0, .null, .int 0]) (fun j hj => by match j, hj with | 0, _ => rfl | 1, _ => rfl | 2, _ => rfl | j + 3, h => exact absurd h (by omega)) (Nat.le_of_ble_eq_true rfl) (Nat.le_of_ble_eq_true rfl) dX15_init_5 (fun q1 => ?_)
  refine g_dup hX (pc := 8) dX15_init_8 rfl ?_
  refine g_callI hX (pc := 9) kJ2_init (mt_AL_init E l q1) q1875 [0] rfl rfl rfl (Nat.le_of_ble_eq_true rfl) (Nat.le_of_ble_eq_true rfl) (Nat.le_of_ble_eq_true rfl) (Nat.le_of_ble_eq_true rfl) (Nat.le_of_ble_eq_true rfl) dX15_init_9 (fun v w1 hp => ?_)
  obtain ⟨w2, h3, rfl, rfl⟩ := hp
  refine g_nrm (cs1 := [w2, [(a, ob 13 [.int 0, .int 0, .int 0, .int 0, .int 0, .int 0, .int 0, .int 0, .null, .null])]]) (st1 := [.ref q1, .ref a]) rfl rfl ?_
  refine g_putF hX (pc := 12) fcX15 1 (fs1 := [.int 0, .int 0, .int 0, .int 0, .int 0, .int 0, .int 0, .int 0, .ref q1, .null]) (cs1 := [w2, [(a, ob 13 [.int 0, .int 0, .int 0, .int 0, .int 0, .int 0, .int 0, .int 0, .ref q1, .null])]]) rfl 8 (by decide) q1894 rfl rfl hin rfl rfl rfl (Nat.le_of_ble_eq_true rfl) rfl rfl dX15_init_12 ?_
  refine g_aload_n hX (pc := 15) dX15_init_15 0 rfl ?_
  refine g_iload_n hX (pc := 16) dX15_init_16 1 rfl ?_
  refine g_putF hX (pc := 17) fcX15 1 (fs1 := [.int kd, .int 0, .int 0, .int 0, .int 0, .int 0, .int 0, .int 0, .ref q1, .null]) (cs1 := [w2, [(a, ob 13 [.int kd, .int 0, .int 0, .int 0, .int 0, .int 0, .int 0, .int 0, .ref q1, .null])]]) rfl 0 (by decide) q1876 rfl rfl hin rfl rfl rfl (Nat.le_of_ble_eq_true rfl) rfl rfl dX15_init_17 ?_
  refine g_aload_n hX (pc := 20) dX15_init_20 0 rfl ?_
  refine g_iload_n hX (pc := 21) dX15_init_21 2 rfl ?_
  refine g_putF hX (pc := 22) fcX15 1 (fs1 := [.int kd, .int fr, .int 0, .int 0, .int 0, .int 0, .int 0, .int 0, .ref q1, .null]) (cs1 := [w2, [(a, ob 13 [.int kd, .int fr, .int 0, .int 0, .int 0, .int 0, .int 0, .int 0, .ref q1, .null])]]) rfl 1 (by decide) q1879 rfl rfl hin rfl rfl rfl (Nat.le_of_ble_eq_true rfl) rfl rfl dX15_init_22 ?_
  refine g_aload_n hX (pc := 25) dX15_init_25 0 rfl ?_
  refine g_iload_n hX (pc := 26) dX15_init_26 3 rfl ?_
  refine g_putF hX (pc := 27) fcX15 1 (fs1 := [.int kd, .int fr, .int to, .int 0, .int 0, .int 0, .int 0, .int 0, .ref q1, .null]) (cs1 := [w2, [(a, ob 13 [.int kd, .int fr, .int to, .int 0, .int 0, .int 0, .int 0, .int 0, .ref q1, .null])]]) rfl 2 (by decide) q1882 rfl rfl hin rfl rfl rfl (Nat.le_of_ble_eq_true rfl) rfl rfl dX15_init_27 ?_
  refine g_aload_n hX (pc := 30) dX15_init_30 0 rfl ?_
  refine g_iload hX (pc := 31) dX15_init_31 4 rfl ?_
  refine g_putF hX (pc := 33) fcX15 1 (fs1 := [.int kd, .int fr, .int to, .int tm, .int 0, .int 0, .int 0, .int 0, .ref q1, .null]) (cs1 := [w2, [(a, ob 13 [.int kd, .int fr, .int to, .int tm, .int 0, .int 0, .int 0, .int 0, .ref q1, .null])]]) rfl 3 (by decide) q1885 rfl rfl hin rfl rfl rfl (Nat.le_of_ble_eq_true rfl) rfl rfl dX15_init_33 ?_
  refine g_pk [1, 0] rfl ?_
  refine g_cs (cs1 := [[(a, ob 13 [.int kd, .int fr, .int to, .int tm, .int 0, .int 0, .int 0, .int 0, .ref q1, .null])], w2]) rfl ?_
  refine g_vret hX (pc := 36) hR ?_ (Nat.le_of_ble_eq_true rfl) (Nat.le_of_ble_eq_true rfl) dX15_init_36
  exact ⟨_, _, h3, rfl, rfl⟩

set_option maxHeartbeats 4000000 in
theorem mt_MM_init (E : EE) (l : Launch) (m : Nat) (sz : Nat) (j : Nat) (fz : va_W) : Mt E l yX5_init cX5_init 1 none 5 27 121 92 [.ref m] [[(m, ob 4 [.int 0, .null, .null, .null, .int 0, .int 0, .int 0, .null, .null, .int 0])], fz] (fun (v_ : Option Value) (cs_ : List va_W) => ∃ (w : va_W) (fz1 : va_W), Ext E fz fz1 ∧ IsMM E fz1 sz m (mNew j) w ∧ v_ = none ∧ cs_ = [w, fz1]) := by
  refine Mt.of (by decide) (Nat.le_of_ble_eq_true rfl) (fun X hX hR hin => ?_)
  refine g_lv1 (lv1 := [(0, .ref m)]) rfl ?_
  refine g_aload_n hX (pc := 0) dX5_init_0 0 rfl ?_
  refine g_objInit hX (pc := 1) q1613 q_oi1 q_oi2 (Nat.le_of_ble_eq_true rfl) (Nat.le_of_ble_eq_true rfl) dX5_init_1 ?_
  refine g_aload_n hX (pc := 4) dX5_init_4 0 rfl ?_
  refine g_iconst hX (pc := 5) (v := 1) dX5_init_5 (by decide) ?_
  refine g_put hX (pc := 6) fcX5 0 (fs1 := [.int 1, .null, .null, .null, .int 0, .int 0, .int 0, .null, .null, .int 0]) (cs1 := [[(m, ob 4 [.int 1, .null, .null, .null, .int 0, .int 0, .int 0, .null, .null, .int 0])], fz]) rfl 0 (by decide) q1688 rfl rfl rfl rfl (Nat.le_of_ble_eq_true rfl) rfl rfl dX5_init_6 ?_
  refine g_aload_n hX (pc := 9) dX5_init_9 0 rfl ?_
  refine g_new hX (pc := 10) fcX6 q1614 q1615 q77 (fs := [.int 0, .int 0, .int 0, .int 0, .null, .null]) (fun j hj => by match j, hj with | 0, _ => rfl | 1, _ => rfl | 2, _ => rfl | 3, _ => rfl | 4, _ => rfl | 5, _ => rfl | j + 6, h => exact absurd h (by omega)) (Nat.le_of_ble_eq_true rfl) (Nat.le_of_ble_eq_true rfl) dX5_init_10 (fun q1 => ?_)
  refine g_dup hX (pc := 13) dX5_init_13 rfl ?_
  refine g_callIN hX (pc := 14) kX6_init (mt_Kp_init E l q1) q1616 [0] rfl rfl rfl (Nat.le_of_ble_eq_true rfl) (Nat.le_of_ble_eq_true rfl) (Nat.le_of_ble_eq_true rfl) (Nat.le_of_ble_eq_true rfl) (Nat.le_of_ble_eq_true rfl) dX5_init_14 (fun v w1 hp => ?_)
  obtain ⟨sp2, la3, ws4, w5, h6, h7, rfl, rfl⟩ := hp
  refine g_nrm (cs1 := [[(q1, ob 5 [.int 0, .int (-1), .int 0, .int 0, .ref sp2, .ref la3])], ws4, w5, [(m, ob 4 [.int 1, .null, .null, .null, .int 0, .int 0, .int 0, .null, .null, .int 0])], fz]) (st1 := [.ref q1, .ref m]) rfl rfl ?_
  refine g_put hX (pc := 17) fcX5 3 (fs1 := [.int 1, .ref q1, .null, .null, .int 0, .int 0, .int 0, .null, .null, .int 0]) (cs1 := [[(q1, ob 5 [.int 0, .int (-1), .int 0, .int 0, .ref sp2, .ref la3])], ws4, w5, [(m, ob 4 [.int 1, .ref q1, .null, .null, .int 0, .int 0, .int 0, .null, .null, .int 0])], fz]) rfl 1 (by decide) q1691 rfl rfl rfl rfl (Nat.le_of_ble_eq_true rfl) rfl rfl dX5_init_17 ?_
  refine g_aload_n hX (pc := 20) dX5_init_20 0 rfl ?_
  refine g_new hX (pc := 21) fcX6 q1614 q1615 q77 (fs := [.int 0, .int 0, .int 0, .int 0, .null, .null]) (fun j hj => by match j, hj with | 0, _ => rfl | 1, _ => rfl | 2, _ => rfl | 3, _ => rfl | 4, _ => rfl | 5, _ => rfl | j + 6, h => exact absurd h (by omega)) (Nat.le_of_ble_eq_true rfl) (Nat.le_of_ble_eq_true rfl) dX5_init_21 (fun q8 => ?_)
  refine g_dup hX (pc := 24) dX5_init_24 rfl ?_
  refine g_callIN hX (pc := 25) kX6_init (mt_Kp_init E l q8) q1616 [0] rfl rfl rfl (Nat.le_of_ble_eq_true rfl) (Nat.le_of_ble_eq_true rfl) (Nat.le_of_ble_eq_true rfl) (Nat.le_of_ble_eq_true rfl) (Nat.le_of_ble_eq_true rfl) dX5_init_25 (fun v w1 hp => ?_)
  obtain ⟨sp9, la10, ws11, w12, h13, h14, rfl, rfl⟩ := hp
  refine g_nrm (cs1 := [[(q8, ob 5 [.int 0, .int (-1), .int 0, .int 0, .ref sp9, .ref la10])], ws11, w12, [(q1, ob 5 [.int 0, .int (-1), .int 0, .int 0, .ref sp2, .ref la3])], ws4, w5, [(m, ob 4 [.int 1, .ref q1, .null, .null, .int 0, .int 0, .int 0, .null, .null, .int 0])], fz]) (st1 := [.ref q8, .ref m]) rfl rfl ?_
  refine g_put hX (pc := 28) fcX5 6 (fs1 := [.int 1, .ref q1, .ref q8, .null, .int 0, .int 0, .int 0, .null, .null, .int 0]) (cs1 := [[(q8, ob 5 [.int 0, .int (-1), .int 0, .int 0, .ref sp9, .ref la10])], ws11, w12, [(q1, ob 5 [.int 0, .int (-1), .int 0, .int 0, .ref sp2, .ref la3])], ws4, w5, [(m, ob 4 [.int 1, .ref q1, .ref q8, .null, .int 0, .int 0, .int 0, .null, .null, .int 0])], fz]) rfl 2 (by decide) q1694 rfl rfl rfl rfl (Nat.le_of_ble_eq_true rfl) rfl rfl dX5_init_28 ?_
  refine g_aload_n hX (pc := 31) dX5_init_31 0 rfl ?_
  refine g_new hX (pc := 32) fcX7 q1686 q1621 q78 (fs := [.null, .null, .null, .null, .int 0, .null, .null]) (fun j hj => by match j, hj with | 0, _ => rfl | 1, _ => rfl | 2, _ => rfl | 3, _ => rfl | 4, _ => rfl | 5, _ => rfl | 6, _ => rfl | j + 7, h => exact absurd h (by omega)) (Nat.le_of_ble_eq_true rfl) (Nat.le_of_ble_eq_true rfl) dX5_init_32 (fun q15 => ?_)
  refine g_dup hX (pc := 35) dX5_init_35 rfl ?_
  refine g_callIN hX (pc := 36) kX7_init (mt_MS_init E l q15) q1687 [0] rfl rfl rfl (Nat.le_of_ble_eq_true rfl) (Nat.le_of_ble_eq_true rfl) (Nat.le_of_ble_eq_true rfl) (Nat.le_of_ble_eq_true rfl) (Nat.le_of_ble_eq_true rfl) dX5_init_36 (fun v w1 hp => ?_)
  obtain ⟨w16, h17, rfl, rfl⟩ := hp
  refine g_nrm (cs1 := [w16, [(q8, ob 5 [.int 0, .int (-1), .int 0, .int 0, .ref sp9, .ref la10])], ws11, w12, [(q1, ob 5 [.int 0, .int (-1), .int 0, .int 0, .ref sp2, .ref la3])], ws4, w5, [(m, ob 4 [.int 1, .ref q1, .ref q8, .null, .int 0, .int 0, .int 0, .null, .null, .int 0])], fz]) (st1 := [.ref q15, .ref m]) rfl rfl ?_
  refine g_put hX (pc := 39) fcX5 7 (fs1 := [.int 1, .ref q1, .ref q8, .ref q15, .int 0, .int 0, .int 0, .null, .null, .int 0]) (cs1 := [w16, [(q8, ob 5 [.int 0, .int (-1), .int 0, .int 0, .ref sp9, .ref la10])], ws11, w12, [(q1, ob 5 [.int 0, .int (-1), .int 0, .int 0, .ref sp2, .ref la3])], ws4, w5, [(m, ob 4 [.int 1, .ref q1, .ref q8, .ref q15, .int 0, .int 0, .int 0, .null, .null, .int 0])], fz]) rfl 3 (by decide) q1697 rfl rfl rfl rfl (Nat.le_of_ble_eq_true rfl) rfl rfl dX5_init_39 ?_
  refine g_aload_n hX (pc := 42) dX5_init_42 0 rfl ?_
  refine g_iconst hX (pc := 43) (v := 5) dX5_init_43 (by decide) ?_
  refine g_newi hX (pc := 44) q918 5 (by decide) (by decide) (Nat.le_of_ble_eq_true rfl) (Nat.le_of_ble_eq_true rfl) (Nat.le_of_ble_eq_true rfl) dX5_init_44 (fun q18 => ?_)
  refine g_putF hX (pc := 46) fcX5 8 (fs1 := [.int 1, .ref q1, .ref q8, .ref q15, .int 0, .int 0, .int 0, .ref q18, .null, .int 0]) (cs1 := [[(q18, iA (aC E 0) 5 (fun _ => 0))], w16, [(q8, ob 5 [.int 0, .int (-1), .int 0, .int 0, .ref sp9, .ref la10])], ws11, w12, [(q1, ob 5 [.int 0, .int (-1), .int 0, .int 0, .ref sp2, .ref la3])], ws4, w5, [(m, ob 4 [.int 1, .ref q1, .ref q8, .ref q15, .int 0, .int 0, .int 0, .ref q18, .null, .int 0])], fz]) rfl 7 (by decide) q1709 rfl rfl hin rfl rfl rfl (Nat.le_of_ble_eq_true rfl) rfl rfl dX5_init_46 ?_
  refine g_aload_n hX (pc := 49) dX5_init_49 0 rfl ?_
  refine g_iconst hX (pc := 50) (v := 5) dX5_init_50 (by decide) ?_
  refine g_newi hX (pc := 51) q918 5 (by decide) (by decide) (Nat.le_of_ble_eq_true rfl) (Nat.le_of_ble_eq_true rfl) (Nat.le_of_ble_eq_true rfl) dX5_init_51 (fun q19 => ?_)
  refine g_putF hX (pc := 53) fcX5 9 (fs1 := [.int 1, .ref q1, .ref q8, .ref q15, .int 0, .int 0, .int 0, .ref q18, .ref q19, .int 0]) (cs1 := [[(q19, iA (aC E 0) 5 (fun _ => 0))], [(q18, iA (aC E 0) 5 (fun _ => 0))], w16, [(q8, ob 5 [.int 0, .int (-1), .int 0, .int 0, .ref sp9, .ref la10])], ws11, w12, [(q1, ob 5 [.int 0, .int (-1), .int 0, .int 0, .ref sp2, .ref la3])], ws4, w5, [(m, ob 4 [.int 1, .ref q1, .ref q8, .ref q15, .int 0, .int 0, .int 0, .ref q18, .ref q19, .int 0])], fz]) rfl 8 (by decide) q1712 rfl rfl hin rfl rfl rfl (Nat.le_of_ble_eq_true rfl) rfl rfl dX5_init_53 ?_
  refine g_pk [4, 9] rfl ?_
  refine g_cs (cs1 := [ws11, fz, [(q19, iA (aC E 0) 5 (fun _ => 0))], [(q18, iA (aC E 0) 5 (fun _ => 0))], w16, [(q8, ob 5 [.int 0, .int (-1), .int 0, .int 0, .ref sp9, .ref la10])], w12, [(q1, ob 5 [.int 0, .int (-1), .int 0, .int 0, .ref sp2, .ref la3])], ws4, w5, [(m, ob 4 [.int 1, .ref q1, .ref q8, .ref q15, .int 0, .int 0, .int 0, .ref q18, .ref q19, .int 0])]]) rfl ?_
  refine g_fl (cs1 := [(ws11 ++ (fz)), [(q19, iA (aC E 0) 5 (fun _ => 0))], [(q18, iA (aC E 0) 5 (fun _ => 0))], w16, [(q8, ob 5 [.int 0, .int (-1), .int 0, .int 0, .ref sp9, .ref la10])], w12, [(q1, ob 5 [.int 0, .int (-1), .int 0, .int 0, .ref sp2, .ref la3])], ws4, w5, [(m, ob 4 [.int 1, .ref q1, .ref q8, .ref q15, .int 0, .int 0, .int 0, .ref q18, .ref q19, .int 0])]]) (by simp only [List.flatten_cons, List.flatten_nil, List.cons_append, List.append_assoc, List.nil_append, List.append_nil]) ?_
  have hx21 : Ext E fz (ws11 ++ (fz)) := fun q hq => (List.mem_append_right _ hq)
  have hm22 : ∀ q ∈ ws11, q ∈ (ws11 ++ (fz)) := fun q hq => (List.mem_append_left _ hq)
  generalize (ws11 ++ (fz)) = fz20 at hx21 hm22 ⊢
  have hMT23 : MTIn E fz20 sp9 S0 := ⟨_, h13, hm22⟩
  have hE24 : MEL E fz20 la10 [] w12 := ⟨h14.al, fun g hg => absurd hg List.not_mem_nil⟩
  refine g_pk [7, 0] rfl ?_
  refine g_cs (cs1 := [ws4, fz20, [(q19, iA (aC E 0) 5 (fun _ => 0))], [(q18, iA (aC E 0) 5 (fun _ => 0))], w16, [(q8, ob 5 [.int 0, .int (-1), .int 0, .int 0, .ref sp9, .ref la10])], w12, [(q1, ob 5 [.int 0, .int (-1), .int 0, .int 0, .ref sp2, .ref la3])], w5, [(m, ob 4 [.int 1, .ref q1, .ref q8, .ref q15, .int 0, .int 0, .int 0, .ref q18, .ref q19, .int 0])]]) rfl ?_
  refine g_fl (cs1 := [(ws4 ++ (fz20)), [(q19, iA (aC E 0) 5 (fun _ => 0))], [(q18, iA (aC E 0) 5 (fun _ => 0))], w16, [(q8, ob 5 [.int 0, .int (-1), .int 0, .int 0, .ref sp9, .ref la10])], w12, [(q1, ob 5 [.int 0, .int (-1), .int 0, .int 0, .ref sp2, .ref la3])], w5, [(m, ob 4 [.int 1, .ref q1, .ref q8, .ref q15, .int 0, .int 0, .int 0, .ref q18, .ref q19, .int 0])]]) (by simp only [List.flatten_cons, List.flatten_nil, List.cons_append, List.append_assoc, List.nil_append, List.append_nil]) ?_
  have hx26 : Ext E fz20 (ws4 ++ (fz20)) := fun q hq => (List.mem_append_right _ hq)
  have hm27 : ∀ q ∈ ws4, q ∈ (ws4 ++ (fz20)) := fun q hq => (List.mem_append_left _ hq)
  generalize (ws4 ++ (fz20)) = fz25 at hx26 hm27 ⊢
  have h28 := MTIn.mono hx26 hMT23
  have h29 := MEL.mono hx26 hE24
  have hMT30 : MTIn E fz25 sp2 S0 := ⟨_, h6, hm27⟩
  have hE31 : MEL E fz25 la3 [] w5 := ⟨h7.al, fun g hg => absurd hg List.not_mem_nil⟩
  refine g_pk [4, 4] rfl ?_
  refine g_cs (cs1 := [[(q8, ob 5 [.int 0, .int (-1), .int 0, .int 0, .ref sp9, .ref la10])], w12, fz25, [(q19, iA (aC E 0) 5 (fun _ => 0))], [(q18, iA (aC E 0) 5 (fun _ => 0))], w16, [(q1, ob 5 [.int 0, .int (-1), .int 0, .int 0, .ref sp2, .ref la3])], w5, [(m, ob 4 [.int 1, .ref q1, .ref q8, .ref q15, .int 0, .int 0, .int 0, .ref q18, .ref q19, .int 0])]]) rfl ?_
  refine g_fl (cs1 := [((q8, ob 5 [.int 0, .int (-1), .int 0, .int 0, .ref sp9, .ref la10]) :: (w12)), fz25, [(q19, iA (aC E 0) 5 (fun _ => 0))], [(q18, iA (aC E 0) 5 (fun _ => 0))], w16, [(q1, ob 5 [.int 0, .int (-1), .int 0, .int 0, .ref sp2, .ref la3])], w5, [(m, ob 4 [.int 1, .ref q1, .ref q8, .ref q15, .int 0, .int 0, .int 0, .ref q18, .ref q19, .int 0])]]) (by simp only [List.flatten_cons, List.flatten_nil, List.cons_append, List.append_assoc, List.nil_append, List.append_nil]) ?_
  have hL32 : IsKp E fz25 q8 pL0 ((q8, ob 5 [.int 0, .int (-1), .int 0, .int 0, .ref sp9, .ref la10]) :: (w12)) := ⟨_, _, _, _, h29, rfl, h28, rfl⟩
  generalize ((q8, ob 5 [.int 0, .int (-1), .int 0, .int 0, .ref sp9, .ref la10]) :: (w12)) = ws33 at hL32 ⊢
  refine g_pk [0, 0] rfl ?_
  refine g_cs (cs1 := [ws33, fz25, [(q19, iA (aC E 0) 5 (fun _ => 0))], [(q18, iA (aC E 0) 5 (fun _ => 0))], w16, [(q1, ob 5 [.int 0, .int (-1), .int 0, .int 0, .ref sp2, .ref la3])], w5, [(m, ob 4 [.int 1, .ref q1, .ref q8, .ref q15, .int 0, .int 0, .int 0, .ref q18, .ref q19, .int 0])]]) rfl ?_
  refine g_fl (cs1 := [(ws33 ++ (fz25)), [(q19, iA (aC E 0) 5 (fun _ => 0))], [(q18, iA (aC E 0) 5 (fun _ => 0))], w16, [(q1, ob 5 [.int 0, .int (-1), .int 0, .int 0, .ref sp2, .ref la3])], w5, [(m, ob 4 [.int 1, .ref q1, .ref q8, .ref q15, .int 0, .int 0, .int 0, .ref q18, .ref q19, .int 0])]]) (by simp only [List.flatten_cons, List.flatten_nil, List.cons_append, List.append_assoc, List.nil_append, List.append_nil]) ?_
  have hx35 : Ext E fz25 (ws33 ++ (fz25)) := fun q hq => (List.mem_append_right _ hq)
  have hm36 : ∀ q ∈ ws33, q ∈ (ws33 ++ (fz25)) := fun q hq => (List.mem_append_left _ hq)
  generalize (ws33 ++ (fz25)) = fz34 at hx35 hm36 ⊢
  have h37 := MTIn.mono hx35 h28
  have h38 := MTIn.mono hx35 hMT30
  have h39 := MEL.mono hx35 hE31
  have h40 := IsKp.mono hx35 hL32
  have hKp41 : KpIn E fz34 q8 pL0 := ⟨_, h40, hm36⟩
  refine g_pk [6, 2, 1, 2, 2, 1] rfl ?_
  refine g_cs (cs1 := [[(m, ob 4 [.int 1, .ref q1, .ref q8, .ref q15, .int 0, .int 0, .int 0, .ref q18, .ref q19, .int 0])], [(q18, iA (aC E 0) 5 (fun _ => 0))], [(q19, iA (aC E 0) 5 (fun _ => 0))], [(q1, ob 5 [.int 0, .int (-1), .int 0, .int 0, .ref sp2, .ref la3])], w5, w16, fz34]) rfl ?_
  refine g_fl (cs1 := [((m, ob 4 [.int 1, .ref q1, .ref q8, .ref q15, .int 0, .int 0, .int 0, .ref q18, .ref q19, .int 0]) :: (q18, iA (aC E 0) 5 (fun _ => 0)) :: (q19, iA (aC E 0) 5 (fun _ => 0)) :: (((q1, ob 5 [.int 0, .int (-1), .int 0, .int 0, .ref sp2, .ref la3]) :: w5) ++ w16)), fz34]) (by simp only [List.flatten_cons, List.flatten_nil, List.cons_append, List.append_assoc, List.nil_append, List.append_nil]) ?_
  have hM42 : IsMM E fz34 sz m (mNew j) ((m, ob 4 [.int 1, .ref q1, .ref q8, .ref q15, .int 0, .int 0, .int 0, .ref q18, .ref q19, .int 0]) :: (q18, iA (aC E 0) 5 (fun _ => 0)) :: (q19, iA (aC E 0) 5 (fun _ => 0)) :: (((q1, ob 5 [.int 0, .int (-1), .int 0, .int 0, .ref sp2, .ref la3]) :: w5) ++ w16)) := ⟨_, _, _, _, _, _, _, _, _, (fun k hk => ⟨fun _ => ⟨rfl, rfl⟩, fun _ => ⟨rfl, rfl⟩⟩), ⟨_, _, _, _, h39, rfl, h38, rfl⟩, hKp41, h17, rfl⟩
  generalize ((m, ob 4 [.int 1, .ref q1, .ref q8, .ref q15, .int 0, .int 0, .int 0, .ref q18, .ref q19, .int 0]) :: (q18, iA (aC E 0) 5 (fun _ => 0)) :: (q19, iA (aC E 0) 5 (fun _ => 0)) :: (((q1, ob 5 [.int 0, .int (-1), .int 0, .int 0, .ref sp2, .ref la3]) :: w5) ++ w16)) = wk43 at hM42 ⊢
  refine g_vret hX (pc := 56) hR ?_ (Nat.le_of_ble_eq_true rfl) (Nat.le_of_ble_eq_true rfl) dX5_init_56
  exact ⟨_, _, (Ext.tr (Ext.tr hx21 hx26) hx35), hM42, rfl, rfl⟩

set_option maxHeartbeats 4000000 in
theorem mt_MM_copy (E : EE) (l : Launch) (m : Nat) (sz : Nat) (M : PM) (wk : va_W) (fz : va_W) (hM : IsMM E fz sz m M wk) : Mt E l yX5_copy cX5_copy 2 (some (.object "QuorumspireModel$Machine")) 6 50 (230 + List.length (lE (mL M))) 147 [.ref m] [wk, fz] (fun (v_ : Option Value) (cs_ : List va_W) => ∃ (q : Nat) (w1 : va_W) (w2 : va_W) (fz1 : va_W), Ext E fz fz1 ∧ IsMM E fz1 sz q M w1 ∧ IsMM E fz1 sz m M w2 ∧ v_ = some (.ref q) ∧ cs_ = [w1, w2, fz1]) := by
  refine Mt.of (by decide) (Nat.le_of_ble_eq_true rfl) (fun X hX hR hin => ?_)
  refine g_lv1 (lv1 := [(0, .ref m)]) rfl ?_
  refine g_new hX (pc := 0) fcX5 q2358 q1609 q76 (fs := [.int 0, .null, .null, .null, .int 0, .int 0, .int 0, .null, .null, .int 0]) (fun j hj => by match j, hj with | 0, _ => rfl | 1, _ => rfl | 2, _ => rfl | 3, _ => rfl | 4, _ => rfl | 5, _ => rfl | 6, _ => rfl | 7, _ => rfl | 8, _ => rfl | 9, _ => rfl | j + 10, h => exact absurd h (by omega)) (by omega) (by omega) dX5_copy_0 (fun q1 => ?_)
  refine g_dup hX (pc := 3) dX5_copy_3 rfl ?_
  refine g_callI hX (pc := 4) kX5_init (mt_MM_init E l q1 sz (mN M) fz) q2359 [0, 1] rfl rfl rfl (Nat.le_of_ble_eq_true rfl) (Nat.le_of_ble_eq_true rfl) (Nat.le_of_ble_eq_true rfl) (by omega) (by omega) dX5_copy_4 (fun v w1 hp => ?_)
  obtain ⟨w2, fz13, h4, h5, rfl, rfl⟩ := hp
  refine g_nrm (cs1 := [w2, fz13, wk]) (st1 := [.ref q1]) rfl rfl ?_
  have h6 := IsMM.mono h4 hM
  refine g_astore_n hX (pc := 7) (lv1 := [(1, .ref q1), (0, .ref m)]) dX5_copy_7 (by decide) rfl ?_
  obtain ⟨rk7, rv8, rs9, rn10, rp11, fn12, fk13, wl14, ws15, hn16, hK17, hV18, hS19, rfl⟩ := h5
  obtain ⟨la20, sp21, ges22, wl14, hE23, hges24, hsp25, rfl⟩ := hK17
  refine g_fl (cs1 := [[(q1, ob 4 [.int (mR (mNew (mN M))), .ref rk7, .ref rv8, .ref rs9, .int (nI (mDn (mNew (mN M)))), .int (nI (mSu (mNew (mN M)))), .int (mVt (mNew (mN M))), .ref rn10, .ref rp11, .int (bI (mLz (mNew (mN M))))])], [(rn10, iA (aC E 0) 5 fn12)], [(rp11, iA (aC E 0) 5 fk13)], [(rk7, ob 5 [.int (lT (mL (mNew (mN M)))), .int (lV (mL (mNew (mN M)))), .int (nI (lB (mL (mNew (mN M))))), .int (lBT (mL (mNew (mN M)))), .ref sp21, .ref la20])], wl14, ws15, fz13, wk]) (by simp only [List.flatten_cons, List.flatten_nil, List.cons_append, List.append_assoc, List.nil_append, List.append_nil]) ?_
  have hl_ges22 : List.length ges22 = List.length (lE (mL (mNew (mN M)))) := by rw [← hges24, List.length_map]
  obtain ⟨rk26, rv27, rs28, rn29, rp30, fn31, fk32, wl33, ws34, hn35, hK36, hV37, hS38, rfl⟩ := h6
  obtain ⟨la39, sp40, ges41, wl33, hE42, hges43, hsp44, rfl⟩ := hK36
  refine g_fl (cs1 := [[(q1, ob 4 [.int (mR (mNew (mN M))), .ref rk7, .ref rv8, .ref rs9, .int (nI (mDn (mNew (mN M)))), .int (nI (mSu (mNew (mN M)))), .int (mVt (mNew (mN M))), .ref rn10, .ref rp11, .int (bI (mLz (mNew (mN M))))])], [(rn10, iA (aC E 0) 5 fn12)], [(rp11, iA (aC E 0) 5 fk13)], [(rk7, ob 5 [.int (lT (mL (mNew (mN M)))), .int (lV (mL (mNew (mN M)))), .int (nI (lB (mL (mNew (mN M))))), .int (lBT (mL (mNew (mN M)))), .ref sp21, .ref la20])], wl14, ws15, fz13, [(m, ob 4 [.int (mR M), .ref rk26, .ref rv27, .ref rs28, .int (nI (mDn M)), .int (nI (mSu M)), .int (mVt M), .ref rn29, .ref rp30, .int (bI (mLz M))])], [(rn29, iA (aC E 0) 5 fn31)], [(rp30, iA (aC E 0) 5 fk32)], [(rk26, ob 5 [.int (lT (mL M)), .int (lV (mL M)), .int (nI (lB (mL M))), .int (lBT (mL M)), .ref sp40, .ref la39])], wl33, ws34]) (by simp only [List.flatten_cons, List.flatten_nil, List.cons_append, List.append_assoc, List.nil_append, List.append_nil]) ?_
  have hl_ges41 : List.length ges41 = List.length (lE (mL M)) := by rw [← hges43, List.length_map]
  refine g_aload_n hX (pc := 8) dX5_copy_8 0 rfl ?_
  refine g_aload_n hX (pc := 9) dX5_copy_9 1 rfl ?_
  refine g_get hX (pc := 10) fcX5 7 rfl 0 (by decide) q1688 rfl (v := .int (mR M)) rfl dX5_copy_10 ?_
  refine g_put hX (pc := 13) fcX5 0 (fs1 := [.int (mR M), .ref rk7, .ref rv8, .ref rs9, .int (nI (mDn (mNew (mN M)))), .int (nI (mSu (mNew (mN M)))), .int (mVt (mNew (mN M))), .ref rn10, .ref rp11, .int (bI (mLz (mNew (mN M))))]) (cs1 := [[(q1, ob 4 [.int (mR M), .ref rk7, .ref rv8, .ref rs9, .int (nI (mDn (mNew (mN M)))), .int (nI (mSu (mNew (mN M)))), .int (mVt (mNew (mN M))), .ref rn10, .ref rp11, .int (bI (mLz (mNew (mN M))))])], [(rn10, iA (aC E 0) 5 fn12)], [(rp11, iA (aC E 0) 5 fk13)], [(rk7, ob 5 [.int (lT (mL (mNew (mN M)))), .int (lV (mL (mNew (mN M)))), .int (nI (lB (mL (mNew (mN M))))), .int (lBT (mL (mNew (mN M)))), .ref sp21, .ref la20])], wl14, ws15, fz13, [(m, ob 4 [.int (mR M), .ref rk26, .ref rv27, .ref rs28, .int (nI (mDn M)), .int (nI (mSu M)), .int (mVt M), .ref rn29, .ref rp30, .int (bI (mLz M))])], [(rn29, iA (aC E 0) 5 fn31)], [(rp30, iA (aC E 0) 5 fk32)], [(rk26, ob 5 [.int (lT (mL M)), .int (lV (mL M)), .int (nI (lB (mL M))), .int (lBT (mL M)), .ref sp40, .ref la39])], wl33, ws34]) rfl 0 (by decide) q1688 rfl rfl rfl rfl (Nat.le_of_ble_eq_true rfl) rfl rfl dX5_copy_13 ?_
  refine g_aload_n hX (pc := 16) dX5_copy_16 0 rfl ?_
  refine g_aload_n hX (pc := 17) dX5_copy_17 1 rfl ?_
  refine g_get hX (pc := 18) fcX5 7 rfl 1 (by decide) q1691 rfl (v := .ref rk26) rfl dX5_copy_18 ?_
  refine g_callV hX (pc := 21) kX6_copy (mt_Kp_copy E l rk26 (lT (mL M)) (lV (mL M)) (lB (mL M)) (lBT (mL M)) sp40 la39 fz13 ges41 wl33 hE42) q2360 fcX6 (sp_mem (i := 10) rfl) [10, 10, 6] rfl rfl rfl (Nat.le_of_ble_eq_true rfl) (Nat.le_of_ble_eq_true rfl) (Nat.le_of_ble_eq_true rfl) (by omega) (by omega) dX5_copy_21 (fun v w1 hp => ?_)
  obtain ⟨q45, lb46, w147, h48, rfl, rfl⟩ := hp
  refine g_nrm (cs1 := [[(q45, ob 5 [.int (lT (mL M)), .int (lV (mL M)), .int (nI (lB (mL M))), .int (lBT (mL M)), .ref sp40, .ref lb46])], w147, [(rk26, ob 5 [.int (lT (mL M)), .int (lV (mL M)), .int (nI (lB (mL M))), .int (lBT (mL M)), .ref sp40, .ref la39])], wl33, fz13, [(q1, ob 4 [.int (mR M), .ref rk7, .ref rv8, .ref rs9, .int (nI (mDn (mNew (mN M)))), .int (nI (mSu (mNew (mN M)))), .int (mVt (mNew (mN M))), .ref rn10, .ref rp11, .int (bI (mLz (mNew (mN M))))])], [(rn10, iA (aC E 0) 5 fn12)], [(rp11, iA (aC E 0) 5 fk13)], [(rk7, ob 5 [.int (lT (mL (mNew (mN M)))), .int (lV (mL (mNew (mN M)))), .int (nI (lB (mL (mNew (mN M))))), .int (lBT (mL (mNew (mN M)))), .ref sp21, .ref la20])], wl14, ws15, [(m, ob 4 [.int (mR M), .ref rk26, .ref rv27, .ref rs28, .int (nI (mDn M)), .int (nI (mSu M)), .int (mVt M), .ref rn29, .ref rp30, .int (bI (mLz M))])], [(rn29, iA (aC E 0) 5 fn31)], [(rp30, iA (aC E 0) 5 fk32)], ws34]) (st1 := [.ref q45, .ref q1]) rfl rfl ?_
  refine g_put hX (pc := 24) fcX5 5 (fs1 := [.int (mR M), .ref q45, .ref rv8, .ref rs9, .int (nI (mDn (mNew (mN M)))), .int (nI (mSu (mNew (mN M)))), .int (mVt (mNew (mN M))), .ref rn10, .ref rp11, .int (bI (mLz (mNew (mN M))))]) (cs1 := [[(q45, ob 5 [.int (lT (mL M)), .int (lV (mL M)), .int (nI (lB (mL M))), .int (lBT (mL M)), .ref sp40, .ref lb46])], w147, [(rk26, ob 5 [.int (lT (mL M)), .int (lV (mL M)), .int (nI (lB (mL M))), .int (lBT (mL M)), .ref sp40, .ref la39])], wl33, fz13, [(q1, ob 4 [.int (mR M), .ref q45, .ref rv8, .ref rs9, .int (nI (mDn (mNew (mN M)))), .int (nI (mSu (mNew (mN M)))), .int (mVt (mNew (mN M))), .ref rn10, .ref rp11, .int (bI (mLz (mNew (mN M))))])], [(rn10, iA (aC E 0) 5 fn12)], [(rp11, iA (aC E 0) 5 fk13)], [(rk7, ob 5 [.int (lT (mL (mNew (mN M)))), .int (lV (mL (mNew (mN M)))), .int (nI (lB (mL (mNew (mN M))))), .int (lBT (mL (mNew (mN M)))), .ref sp21, .ref la20])], wl14, ws15, [(m, ob 4 [.int (mR M), .ref rk26, .ref rv27, .ref rs28, .int (nI (mDn M)), .int (nI (mSu M)), .int (mVt M), .ref rn29, .ref rp30, .int (bI (mLz M))])], [(rn29, iA (aC E 0) 5 fn31)], [(rp30, iA (aC E 0) 5 fk32)], ws34]) rfl 1 (by decide) q1691 rfl rfl rfl rfl (Nat.le_of_ble_eq_true rfl) rfl rfl dX5_copy_24 ?_
  refine g_aload_n hX (pc := 27) dX5_copy_27 0 rfl ?_
  refine g_aload_n hX (pc := 28) dX5_copy_28 1 rfl ?_
  refine g_get hX (pc := 29) fcX5 11 rfl 2 (by decide) q1694 rfl (v := .ref rv27) rfl dX5_copy_29 ?_
  refine g_put hX (pc := 32) fcX5 5 (fs1 := [.int (mR M), .ref q45, .ref rv27, .ref rs9, .int (nI (mDn (mNew (mN M)))), .int (nI (mSu (mNew (mN M)))), .int (mVt (mNew (mN M))), .ref rn10, .ref rp11, .int (bI (mLz (mNew (mN M))))]) (cs1 := [[(q45, ob 5 [.int (lT (mL M)), .int (lV (mL M)), .int (nI (lB (mL M))), .int (lBT (mL M)), .ref sp40, .ref lb46])], w147, [(rk26, ob 5 [.int (lT (mL M)), .int (lV (mL M)), .int (nI (lB (mL M))), .int (lBT (mL M)), .ref sp40, .ref la39])], wl33, fz13, [(q1, ob 4 [.int (mR M), .ref q45, .ref rv27, .ref rs9, .int (nI (mDn (mNew (mN M)))), .int (nI (mSu (mNew (mN M)))), .int (mVt (mNew (mN M))), .ref rn10, .ref rp11, .int (bI (mLz (mNew (mN M))))])], [(rn10, iA (aC E 0) 5 fn12)], [(rp11, iA (aC E 0) 5 fk13)], [(rk7, ob 5 [.int (lT (mL (mNew (mN M)))), .int (lV (mL (mNew (mN M)))), .int (nI (lB (mL (mNew (mN M))))), .int (lBT (mL (mNew (mN M)))), .ref sp21, .ref la20])], wl14, ws15, [(m, ob 4 [.int (mR M), .ref rk26, .ref rv27, .ref rs28, .int (nI (mDn M)), .int (nI (mSu M)), .int (mVt M), .ref rn29, .ref rp30, .int (bI (mLz M))])], [(rn29, iA (aC E 0) 5 fn31)], [(rp30, iA (aC E 0) 5 fk32)], ws34]) rfl 2 (by decide) q1694 rfl rfl rfl rfl (Nat.le_of_ble_eq_true rfl) rfl rfl dX5_copy_32 ?_
  refine g_aload_n hX (pc := 35) dX5_copy_35 0 rfl ?_
  refine g_aload_n hX (pc := 36) dX5_copy_36 1 rfl ?_
  refine g_get hX (pc := 37) fcX5 11 rfl 3 (by decide) q1697 rfl (v := .ref rs28) rfl dX5_copy_37 ?_
  obtain ⟨sr49, hr50⟩ := id hS38
  obtain ⟨fs51, hm52⟩ := IsMR.head hr50
  refine g_callV hX (pc := 40) kX7_copy (mt_MS_copy E l rs28 sr49 (mS M) ws34 hr50) q2361 fcX7 (sp_in 14 rfl hm52) [14] rfl rfl rfl (Nat.le_of_ble_eq_true rfl) (Nat.le_of_ble_eq_true rfl) (Nat.le_of_ble_eq_true rfl) (by omega) (by omega) dX5_copy_40 (fun v w1 hp => ?_)
  obtain ⟨q53, w154, h55, rfl, rfl⟩ := hp
  refine g_nrm (cs1 := [w154, ws34, [(q45, ob 5 [.int (lT (mL M)), .int (lV (mL M)), .int (nI (lB (mL M))), .int (lBT (mL M)), .ref sp40, .ref lb46])], w147, [(rk26, ob 5 [.int (lT (mL M)), .int (lV (mL M)), .int (nI (lB (mL M))), .int (lBT (mL M)), .ref sp40, .ref la39])], wl33, fz13, [(q1, ob 4 [.int (mR M), .ref q45, .ref rv27, .ref rs9, .int (nI (mDn (mNew (mN M)))), .int (nI (mSu (mNew (mN M)))), .int (mVt (mNew (mN M))), .ref rn10, .ref rp11, .int (bI (mLz (mNew (mN M))))])], [(rn10, iA (aC E 0) 5 fn12)], [(rp11, iA (aC E 0) 5 fk13)], [(rk7, ob 5 [.int (lT (mL (mNew (mN M)))), .int (lV (mL (mNew (mN M)))), .int (nI (lB (mL (mNew (mN M))))), .int (lBT (mL (mNew (mN M)))), .ref sp21, .ref la20])], wl14, ws15, [(m, ob 4 [.int (mR M), .ref rk26, .ref rv27, .ref rs28, .int (nI (mDn M)), .int (nI (mSu M)), .int (mVt M), .ref rn29, .ref rp30, .int (bI (mLz M))])], [(rn29, iA (aC E 0) 5 fn31)], [(rp30, iA (aC E 0) 5 fk32)]]) (st1 := [.ref q53, .ref q1]) rfl rfl ?_
  refine g_put hX (pc := 43) fcX5 7 (fs1 := [.int (mR M), .ref q45, .ref rv27, .ref q53, .int (nI (mDn (mNew (mN M)))), .int (nI (mSu (mNew (mN M)))), .int (mVt (mNew (mN M))), .ref rn10, .ref rp11, .int (bI (mLz (mNew (mN M))))]) (cs1 := [w154, ws34, [(q45, ob 5 [.int (lT (mL M)), .int (lV (mL M)), .int (nI (lB (mL M))), .int (lBT (mL M)), .ref sp40, .ref lb46])], w147, [(rk26, ob 5 [.int (lT (mL M)), .int (lV (mL M)), .int (nI (lB (mL M))), .int (lBT (mL M)), .ref sp40, .ref la39])], wl33, fz13, [(q1, ob 4 [.int (mR M), .ref q45, .ref rv27, .ref q53, .int (nI (mDn (mNew (mN M)))), .int (nI (mSu (mNew (mN M)))), .int (mVt (mNew (mN M))), .ref rn10, .ref rp11, .int (bI (mLz (mNew (mN M))))])], [(rn10, iA (aC E 0) 5 fn12)], [(rp11, iA (aC E 0) 5 fk13)], [(rk7, ob 5 [.int (lT (mL (mNew (mN M)))), .int (lV (mL (mNew (mN M)))), .int (nI (lB (mL (mNew (mN M))))), .int (lBT (mL (mNew (mN M)))), .ref sp21, .ref la20])], wl14, ws15, [(m, ob 4 [.int (mR M), .ref rk26, .ref rv27, .ref rs28, .int (nI (mDn M)), .int (nI (mSu M)), .int (mVt M), .ref rn29, .ref rp30, .int (bI (mLz M))])], [(rn29, iA (aC E 0) 5 fn31)], [(rp30, iA (aC E 0) 5 fk32)]]) rfl 3 (by decide) q1697 rfl rfl rfl rfl (Nat.le_of_ble_eq_true rfl) rfl rfl dX5_copy_43 ?_
  refine g_aload_n hX (pc := 46) dX5_copy_46 0 rfl ?_
  refine g_aload_n hX (pc := 47) dX5_copy_47 1 rfl ?_
  refine g_get hX (pc := 48) fcX5 13 rfl 4 (by decide) q1700 rfl (v := .int (nI (mDn M))) rfl dX5_copy_48 ?_
  refine g_put hX (pc := 51) fcX5 7 (fs1 := [.int (mR M), .ref q45, .ref rv27, .ref q53, .int (nI (mDn M)), .int (nI (mSu (mNew (mN M)))), .int (mVt (mNew (mN M))), .ref rn10, .ref rp11, .int (bI (mLz (mNew (mN M))))]) (cs1 := [w154, ws34, [(q45, ob 5 [.int (lT (mL M)), .int (lV (mL M)), .int (nI (lB (mL M))), .int (lBT (mL M)), .ref sp40, .ref lb46])], w147, [(rk26, ob 5 [.int (lT (mL M)), .int (lV (mL M)), .int (nI (lB (mL M))), .int (lBT (mL M)), .ref sp40, .ref la39])], wl33, fz13, [(q1, ob 4 [.int (mR M), .ref q45, .ref rv27, .ref q53, .int (nI (mDn M)), .int (nI (mSu (mNew (mN M)))), .int (mVt (mNew (mN M))), .ref rn10, .ref rp11, .int (bI (mLz (mNew (mN M))))])], [(rn10, iA (aC E 0) 5 fn12)], [(rp11, iA (aC E 0) 5 fk13)], [(rk7, ob 5 [.int (lT (mL (mNew (mN M)))), .int (lV (mL (mNew (mN M)))), .int (nI (lB (mL (mNew (mN M))))), .int (lBT (mL (mNew (mN M)))), .ref sp21, .ref la20])], wl14, ws15, [(m, ob 4 [.int (mR M), .ref rk26, .ref rv27, .ref rs28, .int (nI (mDn M)), .int (nI (mSu M)), .int (mVt M), .ref rn29, .ref rp30, .int (bI (mLz M))])], [(rn29, iA (aC E 0) 5 fn31)], [(rp30, iA (aC E 0) 5 fk32)]]) rfl 4 (by decide) q1700 rfl rfl rfl rfl (Nat.le_of_ble_eq_true rfl) rfl rfl dX5_copy_51 ?_
  refine g_aload_n hX (pc := 54) dX5_copy_54 0 rfl ?_
  refine g_aload_n hX (pc := 55) dX5_copy_55 1 rfl ?_
  refine g_get hX (pc := 56) fcX5 13 rfl 5 (by decide) q1703 rfl (v := .int (nI (mSu M))) rfl dX5_copy_56 ?_
  refine g_put hX (pc := 59) fcX5 7 (fs1 := [.int (mR M), .ref q45, .ref rv27, .ref q53, .int (nI (mDn M)), .int (nI (mSu M)), .int (mVt (mNew (mN M))), .ref rn10, .ref rp11, .int (bI (mLz (mNew (mN M))))]) (cs1 := [w154, ws34, [(q45, ob 5 [.int (lT (mL M)), .int (lV (mL M)), .int (nI (lB (mL M))), .int (lBT (mL M)), .ref sp40, .ref lb46])], w147, [(rk26, ob 5 [.int (lT (mL M)), .int (lV (mL M)), .int (nI (lB (mL M))), .int (lBT (mL M)), .ref sp40, .ref la39])], wl33, fz13, [(q1, ob 4 [.int (mR M), .ref q45, .ref rv27, .ref q53, .int (nI (mDn M)), .int (nI (mSu M)), .int (mVt (mNew (mN M))), .ref rn10, .ref rp11, .int (bI (mLz (mNew (mN M))))])], [(rn10, iA (aC E 0) 5 fn12)], [(rp11, iA (aC E 0) 5 fk13)], [(rk7, ob 5 [.int (lT (mL (mNew (mN M)))), .int (lV (mL (mNew (mN M)))), .int (nI (lB (mL (mNew (mN M))))), .int (lBT (mL (mNew (mN M)))), .ref sp21, .ref la20])], wl14, ws15, [(m, ob 4 [.int (mR M), .ref rk26, .ref rv27, .ref rs28, .int (nI (mDn M)), .int (nI (mSu M)), .int (mVt M), .ref rn29, .ref rp30, .int (bI (mLz M))])], [(rn29, iA (aC E 0) 5 fn31)], [(rp30, iA (aC E 0) 5 fk32)]]) rfl 5 (by decide) q1703 rfl rfl rfl rfl (Nat.le_of_ble_eq_true rfl) rfl rfl dX5_copy_59 ?_
  refine g_aload_n hX (pc := 62) dX5_copy_62 0 rfl ?_
  refine g_aload_n hX (pc := 63) dX5_copy_63 1 rfl ?_
  refine g_get hX (pc := 64) fcX5 13 rfl 6 (by decide) q1706 rfl (v := .int (mVt M)) rfl dX5_copy_64 ?_
  refine g_put hX (pc := 67) fcX5 7 (fs1 := [.int (mR M), .ref q45, .ref rv27, .ref q53, .int (nI (mDn M)), .int (nI (mSu M)), .int (mVt M), .ref rn10, .ref rp11, .int (bI (mLz (mNew (mN M))))]) (cs1 := [w154, ws34, [(q45, ob 5 [.int (lT (mL M)), .int (lV (mL M)), .int (nI (lB (mL M))), .int (lBT (mL M)), .ref sp40, .ref lb46])], w147, [(rk26, ob 5 [.int (lT (mL M)), .int (lV (mL M)), .int (nI (lB (mL M))), .int (lBT (mL M)), .ref sp40, .ref la39])], wl33, fz13, [(q1, ob 4 [.int (mR M), .ref q45, .ref rv27, .ref q53, .int (nI (mDn M)), .int (nI (mSu M)), .int (mVt M), .ref rn10, .ref rp11, .int (bI (mLz (mNew (mN M))))])], [(rn10, iA (aC E 0) 5 fn12)], [(rp11, iA (aC E 0) 5 fk13)], [(rk7, ob 5 [.int (lT (mL (mNew (mN M)))), .int (lV (mL (mNew (mN M)))), .int (nI (lB (mL (mNew (mN M))))), .int (lBT (mL (mNew (mN M)))), .ref sp21, .ref la20])], wl14, ws15, [(m, ob 4 [.int (mR M), .ref rk26, .ref rv27, .ref rs28, .int (nI (mDn M)), .int (nI (mSu M)), .int (mVt M), .ref rn29, .ref rp30, .int (bI (mLz M))])], [(rn29, iA (aC E 0) 5 fn31)], [(rp30, iA (aC E 0) 5 fk32)]]) rfl 6 (by decide) q1706 rfl rfl rfl rfl (Nat.le_of_ble_eq_true rfl) rfl rfl dX5_copy_67 ?_
  refine g_aload_n hX (pc := 70) dX5_copy_70 1 rfl ?_
  refine g_get hX (pc := 71) fcX5 13 rfl 7 (by decide) q1709 rfl (v := .ref rn29) rfl dX5_copy_71 ?_
  refine g_iconst hX (pc := 74) (v := 0) dX5_copy_74 (by decide) ?_
  refine g_aload_n hX (pc := 75) dX5_copy_75 0 rfl ?_
  refine g_get hX (pc := 76) fcX5 7 rfl 7 (by decide) q1709 rfl (v := .ref rn10) rfl dX5_copy_76 ?_
  refine g_iconst hX (pc := 79) (v := 0) dX5_copy_79 (by decide) ?_
  refine g_iconst hX (pc := 80) (v := 5) dX5_copy_80 (by decide) ?_
  refine g_copyi hX (pc := 81) q2362 q_ac1 q_ac2 q_ac3 (sp_mem (i := 14) rfl) 8 (cs1 := [w154, ws34, [(q45, ob 5 [.int (lT (mL M)), .int (lV (mL M)), .int (nI (lB (mL M))), .int (lBT (mL M)), .ref sp40, .ref lb46])], w147, [(rk26, ob 5 [.int (lT (mL M)), .int (lV (mL M)), .int (nI (lB (mL M))), .int (lBT (mL M)), .ref sp40, .ref la39])], wl33, fz13, [(q1, ob 4 [.int (mR M), .ref q45, .ref rv27, .ref q53, .int (nI (mDn M)), .int (nI (mSu M)), .int (mVt M), .ref rn10, .ref rp11, .int (bI (mLz (mNew (mN M))))])], [(rn10, iA (aC E 0) 5 (va_cpy fn31 fn12 0 0 5))], [(rp11, iA (aC E 0) 5 fk13)], [(rk7, ob 5 [.int (lT (mL (mNew (mN M)))), .int (lV (mL (mNew (mN M)))), .int (nI (lB (mL (mNew (mN M))))), .int (lBT (mL (mNew (mN M)))), .ref sp21, .ref la20])], wl14, ws15, [(m, ob 4 [.int (mR M), .ref rk26, .ref rv27, .ref rs28, .int (nI (mDn M)), .int (nI (mSu M)), .int (mVt M), .ref rn29, .ref rp30, .int (bI (mLz M))])], [(rn29, iA (aC E 0) 5 fn31)], [(rp30, iA (aC E 0) 5 fk32)]]) rfl (by decide) (by decide) (by decide) (by decide) (by decide) (g1 := (va_cpy fn31 fn12 0 0 5)) rfl rfl (Nat.le_of_ble_eq_true rfl) (Nat.le_of_ble_eq_true rfl) dX5_copy_81 ?_
  refine g_aload_n hX (pc := 84) dX5_copy_84 1 rfl ?_
  refine g_get hX (pc := 85) fcX5 13 rfl 8 (by decide) q1712 rfl (v := .ref rp30) rfl dX5_copy_85 ?_
  refine g_iconst hX (pc := 88) (v := 0) dX5_copy_88 (by decide) ?_
  refine g_aload_n hX (pc := 89) dX5_copy_89 0 rfl ?_
  refine g_get hX (pc := 90) fcX5 7 rfl 8 (by decide) q1712 rfl (v := .ref rp11) rfl dX5_copy_90 ?_
  refine g_iconst hX (pc := 93) (v := 0) dX5_copy_93 (by decide) ?_
  refine g_iconst hX (pc := 94) (v := 5) dX5_copy_94 (by decide) ?_
  refine g_copyi hX (pc := 95) q2362 q_ac1 q_ac2 q_ac3 (sp_mem (i := 15) rfl) 9 (cs1 := [w154, ws34, [(q45, ob 5 [.int (lT (mL M)), .int (lV (mL M)), .int (nI (lB (mL M))), .int (lBT (mL M)), .ref sp40, .ref lb46])], w147, [(rk26, ob 5 [.int (lT (mL M)), .int (lV (mL M)), .int (nI (lB (mL M))), .int (lBT (mL M)), .ref sp40, .ref la39])], wl33, fz13, [(q1, ob 4 [.int (mR M), .ref q45, .ref rv27, .ref q53, .int (nI (mDn M)), .int (nI (mSu M)), .int (mVt M), .ref rn10, .ref rp11, .int (bI (mLz (mNew (mN M))))])], [(rn10, iA (aC E 0) 5 (va_cpy fn31 fn12 0 0 5))], [(rp11, iA (aC E 0) 5 (va_cpy fk32 fk13 0 0 5))], [(rk7, ob 5 [.int (lT (mL (mNew (mN M)))), .int (lV (mL (mNew (mN M)))), .int (nI (lB (mL (mNew (mN M))))), .int (lBT (mL (mNew (mN M)))), .ref sp21, .ref la20])], wl14, ws15, [(m, ob 4 [.int (mR M), .ref rk26, .ref rv27, .ref rs28, .int (nI (mDn M)), .int (nI (mSu M)), .int (mVt M), .ref rn29, .ref rp30, .int (bI (mLz M))])], [(rn29, iA (aC E 0) 5 fn31)], [(rp30, iA (aC E 0) 5 fk32)]]) rfl (by decide) (by decide) (by decide) (by decide) (by decide) (g1 := (va_cpy fk32 fk13 0 0 5)) rfl rfl (Nat.le_of_ble_eq_true rfl) (Nat.le_of_ble_eq_true rfl) dX5_copy_95 ?_
  refine g_aload_n hX (pc := 98) dX5_copy_98 0 rfl ?_
  refine g_aload_n hX (pc := 99) dX5_copy_99 1 rfl ?_
  refine g_get hX (pc := 100) fcX5 13 rfl 9 (by decide) q1715 rfl (v := .int (bI (mLz M))) rfl dX5_copy_100 ?_
  refine g_put hX (pc := 103) fcX5 7 (fs1 := [.int (mR M), .ref q45, .ref rv27, .ref q53, .int (nI (mDn M)), .int (nI (mSu M)), .int (mVt M), .ref rn10, .ref rp11, .int (bI (mLz M))]) (cs1 := [w154, ws34, [(q45, ob 5 [.int (lT (mL M)), .int (lV (mL M)), .int (nI (lB (mL M))), .int (lBT (mL M)), .ref sp40, .ref lb46])], w147, [(rk26, ob 5 [.int (lT (mL M)), .int (lV (mL M)), .int (nI (lB (mL M))), .int (lBT (mL M)), .ref sp40, .ref la39])], wl33, fz13, [(q1, ob 4 [.int (mR M), .ref q45, .ref rv27, .ref q53, .int (nI (mDn M)), .int (nI (mSu M)), .int (mVt M), .ref rn10, .ref rp11, .int (bI (mLz M))])], [(rn10, iA (aC E 0) 5 (va_cpy fn31 fn12 0 0 5))], [(rp11, iA (aC E 0) 5 (va_cpy fk32 fk13 0 0 5))], [(rk7, ob 5 [.int (lT (mL (mNew (mN M)))), .int (lV (mL (mNew (mN M)))), .int (nI (lB (mL (mNew (mN M))))), .int (lBT (mL (mNew (mN M)))), .ref sp21, .ref la20])], wl14, ws15, [(m, ob 4 [.int (mR M), .ref rk26, .ref rv27, .ref rs28, .int (nI (mDn M)), .int (nI (mSu M)), .int (mVt M), .ref rn29, .ref rp30, .int (bI (mLz M))])], [(rn29, iA (aC E 0) 5 fn31)], [(rp30, iA (aC E 0) 5 fk32)]]) rfl 9 (by decide) q1715 rfl rfl (bI_n _) (bI_f _) (Nat.le_of_ble_eq_true rfl) rfl rfl dX5_copy_103 ?_
  refine g_aload_n hX (pc := 106) dX5_copy_106 0 rfl ?_
  refine g_drop (cs1 := [w154, ws34, [(q45, ob 5 [.int (lT (mL M)), .int (lV (mL M)), .int (nI (lB (mL M))), .int (lBT (mL M)), .ref sp40, .ref lb46])], w147, [(rk26, ob 5 [.int (lT (mL M)), .int (lV (mL M)), .int (nI (lB (mL M))), .int (lBT (mL M)), .ref sp40, .ref la39])], wl33, fz13, [(q1, ob 4 [.int (mR M), .ref q45, .ref rv27, .ref q53, .int (nI (mDn M)), .int (nI (mSu M)), .int (mVt M), .ref rn10, .ref rp11, .int (bI (mLz M))])], [(rn10, iA (aC E 0) 5 (va_cpy fn31 fn12 0 0 5))], [(rp11, iA (aC E 0) 5 (va_cpy fk32 fk13 0 0 5))], wl14, ws15, [(m, ob 4 [.int (mR M), .ref rk26, .ref rv27, .ref rs28, .int (nI (mDn M)), .int (nI (mSu M)), .int (mVt M), .ref rn29, .ref rp30, .int (bI (mLz M))])], [(rn29, iA (aC E 0) 5 fn31)], [(rp30, iA (aC E 0) 5 fk32)]]) [10] rfl ?_
  refine g_drop (cs1 := [w154, ws34, [(q45, ob 5 [.int (lT (mL M)), .int (lV (mL M)), .int (nI (lB (mL M))), .int (lBT (mL M)), .ref sp40, .ref lb46])], w147, [(rk26, ob 5 [.int (lT (mL M)), .int (lV (mL M)), .int (nI (lB (mL M))), .int (lBT (mL M)), .ref sp40, .ref la39])], wl33, fz13, [(q1, ob 4 [.int (mR M), .ref q45, .ref rv27, .ref q53, .int (nI (mDn M)), .int (nI (mSu M)), .int (mVt M), .ref rn10, .ref rp11, .int (bI (mLz M))])], [(rn10, iA (aC E 0) 5 (va_cpy fn31 fn12 0 0 5))], [(rp11, iA (aC E 0) 5 (va_cpy fk32 fk13 0 0 5))], ws15, [(m, ob 4 [.int (mR M), .ref rk26, .ref rv27, .ref rs28, .int (nI (mDn M)), .int (nI (mSu M)), .int (mVt M), .ref rn29, .ref rp30, .int (bI (mLz M))])], [(rn29, iA (aC E 0) 5 fn31)], [(rp30, iA (aC E 0) 5 fk32)]]) [10] rfl ?_
  refine g_drop (cs1 := [w154, ws34, [(q45, ob 5 [.int (lT (mL M)), .int (lV (mL M)), .int (nI (lB (mL M))), .int (lBT (mL M)), .ref sp40, .ref lb46])], w147, [(rk26, ob 5 [.int (lT (mL M)), .int (lV (mL M)), .int (nI (lB (mL M))), .int (lBT (mL M)), .ref sp40, .ref la39])], wl33, fz13, [(q1, ob 4 [.int (mR M), .ref q45, .ref rv27, .ref q53, .int (nI (mDn M)), .int (nI (mSu M)), .int (mVt M), .ref rn10, .ref rp11, .int (bI (mLz M))])], [(rn10, iA (aC E 0) 5 (va_cpy fn31 fn12 0 0 5))], [(rp11, iA (aC E 0) 5 (va_cpy fk32 fk13 0 0 5))], [(m, ob 4 [.int (mR M), .ref rk26, .ref rv27, .ref rs28, .int (nI (mDn M)), .int (nI (mSu M)), .int (mVt M), .ref rn29, .ref rp30, .int (bI (mLz M))])], [(rn29, iA (aC E 0) 5 fn31)], [(rp30, iA (aC E 0) 5 fk32)]]) [10] rfl ?_
  refine g_pk [7, 7, 7, 2, 2, 0] rfl ?_
  refine g_cs (cs1 := [[(q1, ob 4 [.int (mR M), .ref q45, .ref rv27, .ref q53, .int (nI (mDn M)), .int (nI (mSu M)), .int (mVt M), .ref rn10, .ref rp11, .int (bI (mLz M))])], [(rn10, iA (aC E 0) 5 (va_cpy fn31 fn12 0 0 5))], [(rp11, iA (aC E 0) 5 (va_cpy fk32 fk13 0 0 5))], [(q45, ob 5 [.int (lT (mL M)), .int (lV (mL M)), .int (nI (lB (mL M))), .int (lBT (mL M)), .ref sp40, .ref lb46])], w147, w154, ws34, [(rk26, ob 5 [.int (lT (mL M)), .int (lV (mL M)), .int (nI (lB (mL M))), .int (lBT (mL M)), .ref sp40, .ref la39])], wl33, fz13, [(m, ob 4 [.int (mR M), .ref rk26, .ref rv27, .ref rs28, .int (nI (mDn M)), .int (nI (mSu M)), .int (mVt M), .ref rn29, .ref rp30, .int (bI (mLz M))])], [(rn29, iA (aC E 0) 5 fn31)], [(rp30, iA (aC E 0) 5 fk32)]]) rfl ?_
  refine g_fl (cs1 := [((q1, ob 4 [.int (mR M), .ref q45, .ref rv27, .ref q53, .int (nI (mDn M)), .int (nI (mSu M)), .int (mVt M), .ref rn10, .ref rp11, .int (bI (mLz M))]) :: (rn10, iA (aC E 0) 5 (va_cpy fn31 fn12 0 0 5)) :: (rp11, iA (aC E 0) 5 (va_cpy fk32 fk13 0 0 5)) :: (((q45, ob 5 [.int (lT (mL M)), .int (lV (mL M)), .int (nI (lB (mL M))), .int (lBT (mL M)), .ref sp40, .ref lb46]) :: w147) ++ w154)), ws34, [(rk26, ob 5 [.int (lT (mL M)), .int (lV (mL M)), .int (nI (lB (mL M))), .int (lBT (mL M)), .ref sp40, .ref la39])], wl33, fz13, [(m, ob 4 [.int (mR M), .ref rk26, .ref rv27, .ref rs28, .int (nI (mDn M)), .int (nI (mSu M)), .int (mVt M), .ref rn29, .ref rp30, .int (bI (mLz M))])], [(rn29, iA (aC E 0) 5 fn31)], [(rp30, iA (aC E 0) 5 fk32)]]) (by simp only [List.flatten_cons, List.flatten_nil, List.cons_append, List.append_assoc, List.nil_append, List.append_nil]) ?_
  have hM56 : IsMM E fz13 sz q1 M ((q1, ob 4 [.int (mR M), .ref q45, .ref rv27, .ref q53, .int (nI (mDn M)), .int (nI (mSu M)), .int (mVt M), .ref rn10, .ref rp11, .int (bI (mLz M))]) :: (rn10, iA (aC E 0) 5 (va_cpy fn31 fn12 0 0 5)) :: (rp11, iA (aC E 0) 5 (va_cpy fk32 fk13 0 0 5)) :: (((q45, ob 5 [.int (lT (mL M)), .int (lV (mL M)), .int (nI (lB (mL M))), .int (lBT (mL M)), .ref sp40, .ref lb46]) :: w147) ++ w154)) := ⟨_, _, _, _, _, _, _, _, _, (fun k hk => ⟨fun z => ⟨(cpy5 hk).trans ((hn35 k hk).1 z).1, (cpy5 hk).trans ((hn35 k hk).1 z).2⟩, fun z => ⟨(cpy5 hk).trans ((hn35 k hk).2 z).1, (cpy5 hk).trans ((hn35 k hk).2 z).2⟩⟩), ⟨_, _, _, _, h48, hges43, hsp44, rfl⟩, hV37, h55, rfl⟩
  generalize ((q1, ob 4 [.int (mR M), .ref q45, .ref rv27, .ref q53, .int (nI (mDn M)), .int (nI (mSu M)), .int (mVt M), .ref rn10, .ref rp11, .int (bI (mLz M))]) :: (rn10, iA (aC E 0) 5 (va_cpy fn31 fn12 0 0 5)) :: (rp11, iA (aC E 0) 5 (va_cpy fk32 fk13 0 0 5)) :: (((q45, ob 5 [.int (lT (mL M)), .int (lV (mL M)), .int (nI (lB (mL M))), .int (lBT (mL M)), .ref sp40, .ref lb46]) :: w147) ++ w154)) = wk57 at hM56 ⊢
  refine g_pk [5, 5, 5, 2, 2, 1] rfl ?_
  refine g_cs (cs1 := [[(m, ob 4 [.int (mR M), .ref rk26, .ref rv27, .ref rs28, .int (nI (mDn M)), .int (nI (mSu M)), .int (mVt M), .ref rn29, .ref rp30, .int (bI (mLz M))])], [(rn29, iA (aC E 0) 5 fn31)], [(rp30, iA (aC E 0) 5 fk32)], [(rk26, ob 5 [.int (lT (mL M)), .int (lV (mL M)), .int (nI (lB (mL M))), .int (lBT (mL M)), .ref sp40, .ref la39])], wl33, ws34, wk57, fz13]) rfl ?_
  refine g_fl (cs1 := [((m, ob 4 [.int (mR M), .ref rk26, .ref rv27, .ref rs28, .int (nI (mDn M)), .int (nI (mSu M)), .int (mVt M), .ref rn29, .ref rp30, .int (bI (mLz M))]) :: (rn29, iA (aC E 0) 5 fn31) :: (rp30, iA (aC E 0) 5 fk32) :: (((rk26, ob 5 [.int (lT (mL M)), .int (lV (mL M)), .int (nI (lB (mL M))), .int (lBT (mL M)), .ref sp40, .ref la39]) :: wl33) ++ ws34)), wk57, fz13]) (by simp only [List.flatten_cons, List.flatten_nil, List.cons_append, List.append_assoc, List.nil_append, List.append_nil]) ?_
  have hM58 : IsMM E fz13 sz m M ((m, ob 4 [.int (mR M), .ref rk26, .ref rv27, .ref rs28, .int (nI (mDn M)), .int (nI (mSu M)), .int (mVt M), .ref rn29, .ref rp30, .int (bI (mLz M))]) :: (rn29, iA (aC E 0) 5 fn31) :: (rp30, iA (aC E 0) 5 fk32) :: (((rk26, ob 5 [.int (lT (mL M)), .int (lV (mL M)), .int (nI (lB (mL M))), .int (lBT (mL M)), .ref sp40, .ref la39]) :: wl33) ++ ws34)) := ⟨_, _, _, _, _, _, _, _, _, hn35, ⟨_, _, _, _, hE42, hges43, hsp44, rfl⟩, hV37, hS38, rfl⟩
  generalize ((m, ob 4 [.int (mR M), .ref rk26, .ref rv27, .ref rs28, .int (nI (mDn M)), .int (nI (mSu M)), .int (mVt M), .ref rn29, .ref rp30, .int (bI (mLz M))]) :: (rn29, iA (aC E 0) 5 fn31) :: (rp30, iA (aC E 0) 5 fk32) :: (((rk26, ob 5 [.int (lT (mL M)), .int (lV (mL M)), .int (nI (lB (mL M))), .int (lBT (mL M)), .ref sp40, .ref la39]) :: wl33) ++ ws34)) = wk59 at hM58 ⊢
  refine g_pk [1, 0, 0] rfl ?_
  refine g_cs (cs1 := [wk57, wk59, fz13]) rfl ?_
  refine g_aret hX (pc := 107) hR (by first | exact Or.inl ⟨_, rfl⟩ | exact Or.inr ⟨_, rfl⟩) ?_ (by omega) (by omega) dX5_copy_107
  exact ⟨_, _, _, _, h4, hM56, hM58, rfl, rfl⟩

set_option maxHeartbeats 4000000 in
theorem mt_MM_own (E : EE) (l : Launch) (m : Nat) (role : Int32) (rk : Nat) (rv : Nat) (rs : Nat) (dn : Int32) (su : Int32) (vt : Int32) (rn : Nat) (rp : Nat) (lz : Int32) : Mt E l yX5_own cX5_own 1 (some (.object "QuorumspireModel$Kept")) 1 0 0 1 [.ref m] [[(m, ob 4 [.int role, .ref rk, .ref rv, .ref rs, .int dn, .int su, .int vt, .ref rn, .ref rp, .int lz])]] (fun (v_ : Option Value) (cs_ : List va_W) => v_ = some (.ref (if role = 0 then rv else rk)) ∧ cs_ = [[(m, ob 4 [.int role, .ref rk, .ref rv, .ref rs, .int dn, .int su, .int vt, .ref rn, .ref rp, .int lz])]]) := by
  refine Mt.of (by decide) (Nat.le_of_ble_eq_true rfl) (fun X hX hR hin => ?_)
  refine g_lv1 (lv1 := [(0, .ref m)]) rfl ?_
  refine g_aload_n hX (pc := 0) dX5_own_0 0 rfl ?_
  refine g_get hX (pc := 1) fcX5 0 rfl 0 (by decide) q1688 rfl (v := .int role) rfl dX5_own_1 ?_
  refine g_if_ne hX (pc := 4) (tgt := 14) dX5_own_4 rfl (fun c1 => ?_) (fun c1 => ?_)
  · refine g_aload_n hX (pc := 14) dX5_own_14 0 rfl ?_
    refine g_get hX (pc := 15) fcX5 0 rfl 1 (by decide) q1691 rfl (v := .ref rk) rfl dX5_own_15 ?_
    refine g_aret hX (pc := 18) hR (by first | exact Or.inl ⟨_, rfl⟩ | exact Or.inr ⟨_, rfl⟩) ?_ (Nat.le_of_ble_eq_true rfl) (Nat.le_of_ble_eq_true rfl) dX5_own_18
    exact ⟨by rw [if_neg c1], rfl⟩
  · refine g_aload_n hX (pc := 7) dX5_own_7 0 rfl ?_
    refine g_get hX (pc := 8) fcX5 0 rfl 2 (by decide) q1694 rfl (v := .ref rv) rfl dX5_own_8 ?_
    refine g_goto hX (pc := 11) (tgt := 18) dX5_own_11 rfl ?_
    refine g_aret hX (pc := 18) hR (by first | exact Or.inl ⟨_, rfl⟩ | exact Or.inr ⟨_, rfl⟩) ?_ (Nat.le_of_ble_eq_true rfl) (Nat.le_of_ble_eq_true rfl) dX5_own_18
    exact ⟨by rw [if_pos c1], rfl⟩
