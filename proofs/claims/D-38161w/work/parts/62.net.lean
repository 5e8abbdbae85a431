set_option maxHeartbeats 4000000 in
theorem mt_Net_init (E : EE) (l : Launch) (n : Nat) : Mt E l yX2_init cX2_init 1 none 4 3 9 72 [.ref n] [[(n, ob 1 [.null, .null, .null, .int 0, .int 0])]] (fun (v_ : Option Value) (cs_ : List va_W) => ∃ (lm : Nat) (lb : Nat) (lr : Nat) (w1 : va_W) (w2 : va_W) (w3 : va_W), ALc E lm [] 0 w1 ∧ ALc E lb [] 0 w2 ∧ ALc E lr [] 0 w3 ∧ v_ = none ∧ cs_ = [[(n, ob 1 [.ref lm, .ref lb, .ref lr, .int 0, .int 0])], w1, w2, w3]) := by
  refine Mt.of (by decide) (Nat.le_of_ble_eq_true rfl) (fun X hX hR hin => ?_)
  refine g_lv1 (lv1 := [(0, .ref n)]) rfl ?_
  refine g_aload_n hX (pc := 0) dX2_init_0 0 rfl ?_
  refine g_objInit hX (pc := 1) q125 q_oi1 q_oi2 (Nat.le_of_ble_eq_true rfl) (Nat.le_of_ble_eq_true rfl) dX2_init_1 ?_
  refine g_aload_n hX (pc := 4) dX2_init_4 0 rfl ?_
  refine g_new hX (pc := 5) fcJ2 q126 q127 q73 (fs := [.int 0, .null, .int 0]) (fun j hj => by match j, hj with | 0, _ => rfl | 1, _ => rfl | 2, _ => rfl | j + 3, h => exact absurd h (by omega)) (Nat.le_of_ble_eq_true rfl) (Nat.le_of_ble_eq_true rfl) dX2_init_5 (fun q1 => ?_)
  refine g_dup hX (pc := 8) dX2_init_8 rfl ?_
  refine g_callI hX (pc := 9) kJ2_init (mt_AL_init E l q1) q128 [0] rfl rfl rfl (Nat.le_of_ble_eq_true rfl) (Nat.le_of_ble_eq_true rfl) (Nat.le_of_ble_eq_true rfl) (Nat.le_of_ble_eq_true rfl) (Nat.le_of_ble_eq_true rfl) dX2_init_9 (fun v w1 hp => ?_)
  obtain ⟨w2, h3, rfl, rfl⟩ := hp
  refine g_nrm (cs1 := [w2, [(n, ob 1 [.null, .null, .null, .int 0, .int 0])]]) (st1 := [.ref q1, .ref n]) rfl rfl ?_
  refine g_putF hX (pc := 12) fcX2 1 (fs1 := [.ref q1, .null, .null, .int 0, .int 0]) (cs1 := [w2, [(n, ob 1 [.ref q1, .null, .null, .int 0, .int 0])]]) rfl 0 (by decide) q155 rfl rfl hin rfl rfl rfl (Nat.le_of_ble_eq_true rfl) rfl rfl dX2_init_12 ?_
  refine g_aload_n hX (pc := 15) dX2_init_15 0 rfl ?_
  refine g_new hX (pc := 16) fcJ2 q126 q127 q73 (fs := [.int 0, .null, .int 0]) (fun j hj => by match j, hj with | 0, _ => rfl | 1, _ => rfl | 2, _ => rfl | j + 3, h => exact absurd h (by omega)) (Nat.le_of_ble_eq_true rfl) (Nat.le_of_ble_eq_true rfl) dX2_init_16 (fun q4 => ?_)
  refine g_dup hX (pc := 19) dX2_init_19 rfl ?_
  refine g_callI hX (pc := 20) kJ2_init (mt_AL_init E l q4) q128 [0] rfl rfl rfl (Nat.le_of_ble_eq_true rfl) (Nat.le_of_ble_eq_true rfl) (Nat.le_of_ble_eq_true rfl) (Nat.le_of_ble_eq_true rfl) (Nat.le_of_ble_eq_true rfl) dX2_init_20 (fun v w1 hp => ?_)
  obtain ⟨w5, h6, rfl, rfl⟩ := hp
  refine g_nrm (cs1 := [w5, w2, [(n, ob 1 [.ref q1, .null, .null, .int 0, .int 0])]]) (st1 := [.ref q4, .ref n]) rfl rfl ?_
  refine g_putF hX (pc := 23) fcX2 2 (fs1 := [.ref q1, .ref q4, .null, .int 0, .int 0]) (cs1 := [w5, w2, [(n, ob 1 [.ref q1, .ref q4, .null, .int 0, .int 0])]]) rfl 1 (by decide) q157 rfl rfl hin rfl rfl rfl (Nat.le_of_ble_eq_true rfl) rfl rfl dX2_init_23 ?_
  refine g_aload_n hX (pc := 26) dX2_init_26 0 rfl ?_
  refine g_new hX (pc := 27) fcJ2 q126 q127 q73 (fs := [.int 0, .null, .int 0]) (fun j hj => by match j, hj with | 0, _ => rfl | 1, _ => rfl | 2, _ => rfl | j + 3, h => exact absurd h (by omega)) (Nat.le_of_ble_eq_true rfl) (Nat.le_of_ble_eq_true rfl) dX2_init_27 (fun q7 => ?_)
  refine g_dup hX (pc := 30) dX2_init_30 rfl ?_
  refine g_callI hX (pc := 31) kJ2_init (mt_AL_init E l q7) q128 [0] rfl rfl rfl (Nat.le_of_ble_eq_true rfl) (Nat.le_of_ble_eq_true rfl) (Nat.le_of_ble_eq_true rfl) (Nat.le_of_ble_eq_true rfl) (Nat.le_of_ble_eq_true rfl) dX2_init_31 (fun v w1 hp => ?_)
  obtain ⟨w8, h9, rfl, rfl⟩ := hp
  refine g_nrm (cs1 := [w8, w5, w2, [(n, ob 1 [.ref q1, .ref q4, .null, .int 0, .int 0])]]) (st1 := [.ref q7, .ref n]) rfl rfl ?_
  refine g_putF hX (pc := 34) fcX2 3 (fs1 := [.ref q1, .ref q4, .ref q7, .int 0, .int 0]) (cs1 := [w8, w5, w2, [(n, ob 1 [.ref q1, .ref q4, .ref q7, .int 0, .int 0])]]) rfl 2 (by decide) q159 rfl rfl hin rfl rfl rfl (Nat.le_of_ble_eq_true rfl) rfl rfl dX2_init_34 ?_
  refine g_pk [3, 2, 1, 0] rfl ?_
  refine g_cs (cs1 := [[(n, ob 1 [.ref q1, .ref q4, .ref q7, .int 0, .int 0])], w2, w5, w8]) rfl ?_
  refine g_vret hX (pc := 37) hR ?_ (Nat.le_of_ble_eq_true rfl) (Nat.le_of_ble_eq_true rfl) dX2_init_37
  exact ⟨_, _, _, _, _, _, h3, h6, h9, rfl, rfl⟩

set_option maxHeartbeats 4000000 in
theorem mt_Net_at (E : EE) (l : Launch) (n : Nat) (lm : Nat) (lb : Nat) (lr : Nat) (lo : Int32) (nw : Int32) (mas : List Nat) (wm : va_W) (k : Nat) (m : Nat) (M : PM) (fz : va_W) (wk : va_W) (hA : AL E lm mas wm) (hM : IsMach E fz m M wk) (hk : (mas[k]? = some m)) : Mt E l yX2_at cX2_at 2 (some (.object "Quorumspire$Machine")) 4 0 0 65 [.ref n, .int (nI k)] [[(n, ob 1 [.ref lm, .ref lb, .ref lr, .int lo, .int nw])], wm, wk] (fun (v_ : Option Value) (cs_ : List va_W) => v_ = some (.ref m) ∧ cs_ = [[(n, ob 1 [.ref lm, .ref lb, .ref lr, .int lo, .int nw])], wm, wk]) := by
  refine Mt.of (by decide) (Nat.le_of_ble_eq_true rfl) (fun X hX hR hin => ?_)
  refine g_lv1 (lv1 := [(0, .ref n), (1, .int (nI k))]) rfl ?_
  refine g_aload_n hX (pc := 0) dX2_at_0 0 rfl ?_
  refine g_get hX (pc := 1) fcX2 0 rfl 0 (by decide) q155 rfl (v := .ref lm) rfl dX2_at_1 ?_
  refine g_iload_n hX (pc := 4) dX2_at_4 1 rfl ?_
  obtain ⟨fs1, hm2⟩ := AL.head hA
  refine g_callF hX (pc := 5) kfJ2_get (mt_AL_get E l lm mas wm k m hA (hk)) q203 fcJ2 (sp_in 1 rfl hm2) [1] rfl rfl rfl (Nat.le_of_ble_eq_true rfl) (Nat.le_of_ble_eq_true rfl) (Nat.le_of_ble_eq_true rfl) (Nat.le_of_ble_eq_true rfl) (Nat.le_of_ble_eq_true rfl) dX2_at_5 (fun v w1 hp => ?_)
  obtain ⟨rfl, rfl⟩ := hp
  refine g_nrm (cs1 := [wm, [(n, ob 1 [.ref lm, .ref lb, .ref lr, .int lo, .int nw])], wk]) (st1 := [.ref m]) rfl rfl ?_
  obtain ⟨fs3, hm4⟩ := IsMach.head hM
  refine g_cast hX (pc := 10) fcX9 (sp_in 2 rfl hm4) q221 dX2_at_10 ?_
  refine g_pk [1, 0, 0] rfl ?_
  refine g_cs (cs1 := [[(n, ob 1 [.ref lm, .ref lb, .ref lr, .int lo, .int nw])], wm, wk]) rfl ?_
  refine g_aret hX (pc := 13) hR (by first | exact Or.inl ⟨_, rfl⟩ | exact Or.inr ⟨_, rfl⟩) ?_ (Nat.le_of_ble_eq_true rfl) (Nat.le_of_ble_eq_true rfl) dX2_at_13
  exact ⟨rfl, rfl⟩

set_option maxHeartbeats 4000000 in
theorem mt_Net_areMost (E : EE) (l : Launch) (n : Nat) (lm : Nat) (lb : Nat) (lr : Nat) (lo : Int32) (nw : Int32) (mas : List Nat) (wm : va_W) (many : Int32) (hA : AL E lm mas wm) : Mt E l yX2_areMost cX2_areMost 2 (some .boolean) 2 0 0 21 [.ref n, .int many] [[(n, ob 1 [.ref lm, .ref lb, .ref lr, .int lo, .int nw])], wm] (fun (v_ : Option Value) (cs_ : List va_W) => v_ = some (.int (if nI (List.length mas) < 2 * many then 1 else 0)) ∧ cs_ = [[(n, ob 1 [.ref lm, .ref lb, .ref lr, .int lo, .int nw])], wm]) := by
  refine Mt.of (by decide) (Nat.le_of_ble_eq_true rfl) (fun X hX hR hin => ?_)
  refine g_lv1 (lv1 := [(0, .ref n), (1, .int many)]) rfl ?_
  refine g_iconst hX (pc := 0) (v := 2) dX2_areMost_0 (by decide) ?_
  refine g_iload_n hX (pc := 1) dX2_areMost_1 1 rfl ?_
  refine g_imul hX (pc := 2) dX2_areMost_2 ?_
  refine g_aload_n hX (pc := 3) dX2_areMost_3 0 rfl ?_
  refine g_get hX (pc := 4) fcX2 0 rfl 0 (by decide) q155 rfl (v := .ref lm) rfl dX2_areMost_4 ?_
  obtain ⟨fs1, hm2⟩ := AL.head hA
  refine g_callF hX (pc := 7) kfJ2_size (mt_AL_size E l lm mas wm hA) q189 fcJ2 (sp_in 1 rfl hm2) [1] rfl rfl rfl (Nat.le_of_ble_eq_true rfl) (Nat.le_of_ble_eq_true rfl) (Nat.le_of_ble_eq_true rfl) (Nat.le_of_ble_eq_true rfl) (Nat.le_of_ble_eq_true rfl) dX2_areMost_7 (fun v w1 hp => ?_)
  obtain ⟨rfl, rfl⟩ := hp
  refine g_nrm (cs1 := [wm, [(n, ob 1 [.ref lm, .ref lb, .ref lr, .int lo, .int nw])]]) (st1 := [.int (nI (List.length mas)), .int (2 * many)]) rfl rfl ?_
  refine g_val (v := if (2 * many) ≤ (nI (List.length mas)) then 0 else 1) (pcJ := 20) (st1 := []) (fun hj3 => ?_) ?_
  · refine g_icmp_le hX (pc := 12) (tgt := 19) dX2_areMost_12 rfl (fun c4 => ?_) (fun c4 => ?_)
    · refine g_iconst hX (pc := 19) (v := 0) dX2_areMost_19 (by decide) ?_
      exact hj3 _ (by rw [if_pos c4])
    · refine g_iconst hX (pc := 15) (v := 1) dX2_areMost_15 (by decide) ?_
      refine g_goto hX (pc := 16) (tgt := 20) dX2_areMost_16 rfl ?_
      exact hj3 _ (by rw [if_neg c4])
  refine g_pk [1, 0] rfl ?_
  refine g_cs (cs1 := [[(n, ob 1 [.ref lm, .ref lb, .ref lr, .int lo, .int nw])], wm]) rfl ?_
  refine g_zret hX (pc := 20) hR (nz01 _) ?_ (Nat.le_of_ble_eq_true rfl) (Nat.le_of_ble_eq_true rfl) dX2_areMost_20
  refine ⟨?_, rfl⟩
  by_cases h : nI (List.length mas) < 2 * many
  · rw [if_pos h, if_neg (Int32.not_le.mpr h)]
  · rw [if_neg h, if_pos (Int32.not_lt.mp h)]

set_option maxHeartbeats 4000000 in
theorem mt_Net_send (E : EE) (l : Launch) (n : Nat) (lm : Nat) (lb : Nat) (lr : Nat) (nw : Int32) (B : PB) (wb : va_W) (fz : va_W) (a : Nat) (g : PMg) (hB : BL E fz lb (Prod.fst B) wb) (hg : MsgIn E fz a g) (hn : (List.length (Prod.fst B) ≤ 30)) : Mt E l yX2_send cX2_send 2 none 7 1 70 171 [.ref n, .ref a] [[(n, ob 1 [.ref lm, .ref lb, .ref lr, .int (Prod.snd B), .int nw])], wb, fz] (fun (v_ : Option Value) (cs_ : List va_W) => ∃ (w1 : va_W), BL E fz lb (Prod.fst (bSend B g)) w1 ∧ v_ = none ∧ cs_ = [[(n, ob 1 [.ref lm, .ref lb, .ref lr, .int (Prod.snd (bSend B g)), .int nw])], w1, fz]) := by
  refine Mt.of (by decide) (Nat.le_of_ble_eq_true rfl) (fun X hX hR hin => ?_)
  refine g_lv1 (lv1 := [(0, .ref n), (1, .ref a)]) rfl ?_
  obtain ⟨gs, hgs, hA, hG⟩ := hB
  have hl : gs.length = (Prod.fst B).length := by rw [← hgs, List.length_map]
  have ho := msg_ok hG
  have ho1 := msg_ok1 hg
  have hla : (gs.map Prod.fst).length = gs.length := List.length_map ..
  refine g_aload_n hX (pc := 0) dX2_send_0 0 rfl ?_
  refine g_get hX (pc := 1) fcX2 0 rfl 1 (by decide) q157 rfl (v := .ref lb) rfl dX2_send_1 ?_
  obtain ⟨fs1, hm2⟩ := AL.head hA
  refine g_callF hX (pc := 4) kfJ2_size (mt_AL_size E l lb (List.map Prod.fst gs) wb hA) q189 fcJ2 (sp_in 1 rfl hm2) [1] rfl rfl rfl (Nat.le_of_ble_eq_true rfl) (Nat.le_of_ble_eq_true rfl) (Nat.le_of_ble_eq_true rfl) (by omega) (by omega) dX2_send_4 (fun v w1 hp => ?_)
  obtain ⟨rfl, rfl⟩ := hp
  refine g_nrm (cs1 := [wb, [(n, ob 1 [.ref lm, .ref lb, .ref lr, .int (Prod.snd B), .int nw])], fz]) (st1 := [.int (nI (List.length (List.map Prod.fst gs)))]) rfl rfl ?_
  refine g_bipush hX (pc := 9) (v := 30) dX2_send_9 (by decide) ?_
  refine g_icmp_ne hX (pc := 11) (tgt := 35) dX2_send_11 rfl (fun c3 => ?_) (fun c3 => ?_)
  · have d1 : ¬ (Prod.fst B).length = 30 := by
      have := c3
      rw [hla, hl, show (30 : Int32) = nI 30 from rfl, nI_eq (by omega) (by omega)] at this
      exact this
    refine g_aload_n hX (pc := 35) dX2_send_35 0 rfl ?_
    refine g_get hX (pc := 36) fcX2 1 rfl 1 (by decide) q157 rfl (v := .ref lb) rfl dX2_send_36 ?_
    refine g_aload_n hX (pc := 39) dX2_send_39 1 rfl ?_
    refine g_callF hX (pc := 40) kfJ2_add_2 (mt_AL_add E l lb (List.map Prod.fst gs) wb a fz 30 hA (by omega) (by omega) (ho1) (ho)) q976 fcJ2 (sp_in 0 rfl hm2) [0, 1] rfl rfl rfl (Nat.le_of_ble_eq_true rfl) (Nat.le_of_ble_eq_true rfl) (Nat.le_of_ble_eq_true rfl) (by omega) (by omega) dX2_send_40 (fun v w1 hp => ?_)
    obtain ⟨w14, h5, rfl, rfl⟩ := hp
    refine g_nrm (cs1 := [w14, fz, [(n, ob 1 [.ref lm, .ref lb, .ref lr, .int (Prod.snd B), .int nw])]]) (st1 := [.int 1]) rfl rfl ?_
    refine g_pop hX (pc := 45) dX2_send_45 rfl ?_
    refine g_pk [2, 0, 0] rfl ?_
    refine g_cs (cs1 := [[(n, ob 1 [.ref lm, .ref lb, .ref lr, .int (Prod.snd B), .int nw])], w14, fz]) rfl ?_
    refine g_vret hX (pc := 46) hR ?_ (by omega) (by omega) dX2_send_46
    rw [show bSend B g = ((Prod.fst B) ++ [g], Prod.snd B) from if_neg d1]
    refine ⟨_, ⟨gs ++ [(a, g)], ?_, ?_, ?_⟩, rfl, rfl⟩
    · rw [List.map_append, hgs]; rfl
    · rw [List.map_append]
      exact h5
    · intro q hq
      rcases List.mem_append.mp hq with h | h
      · exact hG q h
      · rw [List.mem_singleton.mp h]; exact hg
  · have d1 : (Prod.fst B).length = 30 := by
      have := c3
      rw [hla, hl, show (30 : Int32) = nI 30 from rfl, nI_eq (by omega) (by omega)] at this
      exact this
    obtain ⟨g1, hg1⟩ := get_ex (l := gs) (i := 0) (by omega)
    have hg2 : (gs.map Prod.fst)[0]? = some g1.1 := by rw [List.getElem?_map, hg1]; rfl
    have hle : ((gs.map Prod.fst).eraseIdx 0).length = 29 := by rw [List.length_eraseIdx, if_pos (by omega)]; omega
    have ho2 : okL E fz ((gs.map Prod.fst).eraseIdx 0) := fun y hy => ho y (List.mem_of_mem_eraseIdx hy)
    refine g_aload_n hX (pc := 14) dX2_send_14 0 rfl ?_
    refine g_get hX (pc := 15) fcX2 1 rfl 1 (by decide) q157 rfl (v := .ref lb) rfl dX2_send_15 ?_
    refine g_iconst hX (pc := 18) (v := 0) dX2_send_18 (by decide) ?_
    refine g_eqi (nI 0) (nI_0.symm) ?_
    refine g_callF hX (pc := 19) kfJ2_remove (mt_AL_remove E l lb (List.map Prod.fst gs) wb 0 g1.1 fz hA (hg2) (ho)) q1101 fcJ2 (sp_in 0 rfl hm2) [0, 1] rfl rfl rfl (Nat.le_of_ble_eq_true rfl) (Nat.le_of_ble_eq_true rfl) (Nat.le_of_ble_eq_true rfl) (by omega) (by omega) dX2_send_19 (fun v w1 hp => ?_)
    obtain ⟨w16, h7, rfl, rfl⟩ := hp
    refine g_nrm (cs1 := [w16, fz, [(n, ob 1 [.ref lm, .ref lb, .ref lr, .int (Prod.snd B), .int nw])]]) (st1 := [.ref g1.1]) rfl rfl ?_
    refine g_pop hX (pc := 24) dX2_send_24 rfl ?_
    refine g_aload_n hX (pc := 25) dX2_send_25 0 rfl ?_
    refine g_dup hX (pc := 26) dX2_send_26 rfl ?_
    refine g_get hX (pc := 27) fcX2 2 rfl 3 (by decide) q161 rfl (v := .int (Prod.snd B)) rfl dX2_send_27 ?_
    refine g_iconst hX (pc := 30) (v := 1) dX2_send_30 (by decide) ?_
    refine g_iadd hX (pc := 31) dX2_send_31 ?_
    refine g_put hX (pc := 32) fcX2 2 (fs1 := [.ref lm, .ref lb, .ref lr, .int ((Prod.snd B) + 1), .int nw]) (cs1 := [w16, fz, [(n, ob 1 [.ref lm, .ref lb, .ref lr, .int ((Prod.snd B) + 1), .int nw])]]) rfl 3 (by decide) q161 rfl rfl rfl rfl (Nat.le_of_ble_eq_true rfl) rfl rfl dX2_send_32 ?_
    refine g_aload_n hX (pc := 35) dX2_send_35 0 rfl ?_
    refine g_get hX (pc := 36) fcX2 2 rfl 1 (by decide) q157 rfl (v := .ref lb) rfl dX2_send_36 ?_
    refine g_aload_n hX (pc := 39) dX2_send_39 1 rfl ?_
    obtain ⟨fs8, hm9⟩ := AL.head h7
    refine g_callF hX (pc := 40) kfJ2_add_2 (mt_AL_add E l lb (List.eraseIdx (List.map Prod.fst gs) 0) w16 a fz 30 h7 (by omega) (by omega) (ho1) (ho2)) q976 fcJ2 (sp_in 0 rfl hm9) [0, 0] rfl rfl rfl (Nat.le_of_ble_eq_true rfl) (Nat.le_of_ble_eq_true rfl) (Nat.le_of_ble_eq_true rfl) (by omega) (by omega) dX2_send_40 (fun v w1 hp => ?_)
    obtain ⟨w110, h11, rfl, rfl⟩ := hp
    refine g_nrm (cs1 := [w110, fz, [(n, ob 1 [.ref lm, .ref lb, .ref lr, .int ((Prod.snd B) + 1), .int nw])]]) (st1 := [.int 1]) rfl rfl ?_
    refine g_pop hX (pc := 45) dX2_send_45 rfl ?_
    refine g_pk [2, 0, 0] rfl ?_
    refine g_cs (cs1 := [[(n, ob 1 [.ref lm, .ref lb, .ref lr, .int ((Prod.snd B) + 1), .int nw])], w110, fz]) rfl ?_
    refine g_vret hX (pc := 46) hR ?_ (by omega) (by omega) dX2_send_46
    rw [show bSend B g = ((Prod.fst B).drop 1 ++ [g], Prod.snd B + 1) from if_pos d1]
    refine ⟨_, ⟨gs.drop 1 ++ [(a, g)], ?_, ?_, ?_⟩, rfl, rfl⟩
    · rw [List.map_append, List.map_drop, hgs]; rfl
    · have := h11
      rw [List.eraseIdx_zero, ← List.drop_one] at this
      rw [List.map_append, List.map_drop]
      exact this
    · intro q hq
      rcases List.mem_append.mp hq with h | h
      · exact hG q (List.mem_of_mem_drop h)
      · rw [List.mem_singleton.mp h]; exact hg

set_option maxHeartbeats 4000000 in
theorem mt_Net_more (E : EE) (l : Launch) (m : Nat) (M : PM) (wk : va_W) (fz : va_W) (k : Nat) (hM : IsMach E fz m M wk) (hk : (k < 5)) (hx : (1 ≤ mNx M k ∧ mNx M k ≤ 1000)) (hl : (lLast (mL M) ≤ 1000)) : Mt E l yX2_more cX2_more 6 (some (.object "Quorumspire$Message")) 6 3 12 107 [.ref m, .int (nI k)] [wk, fz] (fun (v_ : Option Value) (cs_ : List va_W) => ∃ (q : Nat) (fz1 : va_W) (w1 : va_W), Ext E fz fz1 ∧ MsgIn E fz1 q (mMore M k) ∧ IsMach E fz1 m M w1 ∧ v_ = some (.ref q) ∧ cs_ = [w1, fz1]) := by
  have hll : lLast (mL M) = lB (mL M) + (lE (mL M)).length := rfl
  have hnx : mNext M k = min (mNx M k) (lLast (mL M) + 1) := rfl
  refine Mt.of (by decide) (Nat.le_of_ble_eq_true rfl) (fun X hX hR hin => ?_)
  refine g_lv1 (lv1 := [(0, .ref m), (1, .int (nI k))]) rfl ?_
  obtain ⟨rn1, rk2, rl3, rs4, rst5, fn6, fk7, wl8, ws9, wst10, hn11, hL12, hV13, hS14, rfl⟩ := hM
  obtain ⟨la15, sp16, ges17, wl8, hE18, hges19, hsp20, rfl⟩ := hL12
  refine g_fl (cs1 := [[(m, ob 8 [.int (nI (mN M)), .ref rn1, .ref rk2, .ref rl3, .ref rs4, .ref rst5, .int (mR M), .int (mVt M), .int (nI (mSu M)), .int (nI (mDn M)), .int (bI (mLz M))])], [(rn1, iA (aC E 0) 5 fn6)], [(rk2, iA (aC E 0) 5 fk7)], [(rl3, ob 9 [.ref la15, .int (lT (mL M)), .int (lV (mL M)), .int (nI (lB (mL M))), .int (lBT (mL M)), .ref sp16])], wl8, ws9, wst10, fz]) (by simp only [List.flatten_cons, List.flatten_nil, List.cons_append, List.append_assoc, List.nil_append, List.append_nil]) ?_
  have hl_ges17 : List.length ges17 = List.length (lE (mL M)) := by rw [← hges19, List.length_map]
  refine g_aload_n hX (pc := 0) dX2_more_0 0 rfl ?_
  refine g_getN hX (pc := 1) fcX9 0 rfl 3 (by decide) q933 rfl (v := .ref rl3) rfl dX2_more_1 ?_
  refine g_astore_n hX (pc := 4) (lv1 := [(2, .ref rl3), (0, .ref m), (1, .int (nI k))]) dX2_more_4 (by decide) rfl ?_
  refine g_aload_n hX (pc := 5) dX2_more_5 1 rfl ?_
  refine g_getN hX (pc := 6) fcX9 0 rfl 1 (by decide) q928 rfl (v := .ref rn1) rfl dX2_more_6 ?_
  refine g_iload_n hX (pc := 9) dX2_more_9 2 rfl ?_
  refine g_iald hX (pc := 10) (sp_mem (i := 1) rfl) (v := fn6 k) (vp_in_nI (by omega) (by omega)) (by rw [nI_clamp (by omega)]) dX2_more_10 ?_
  refine g_eqi (nI (mNx M k)) ((hn11 k hk).1) ?_
  refine g_aload_n hX (pc := 11) dX2_more_11 0 rfl ?_
  refine g_callV hX (pc := 12) kX10_last (mt_Log_last E l rl3 la15 (lT (mL M)) (lV (mL M)) (lB (mL M)) (lBT (mL M)) sp16 fz ges17 wl8 hE18) q235 fcX10 (sp_mem (i := 3) rfl) [3, 3] rfl rfl rfl (Nat.le_of_ble_eq_true rfl) (Nat.le_of_ble_eq_true rfl) (Nat.le_of_ble_eq_true rfl) (by omega) (by omega) dX2_more_12 (fun v w1 hp => ?_)
  obtain ⟨rfl, rfl⟩ := hp
  refine g_nrm (cs1 := [[(rl3, ob 9 [.ref la15, .int (lT (mL M)), .int (lV (mL M)), .int (nI (lB (mL M))), .int (lBT (mL M)), .ref sp16])], wl8, [(m, ob 8 [.int (nI (mN M)), .ref rn1, .ref rk2, .ref rl3, .ref rs4, .ref rst5, .int (mR M), .int (mVt M), .int (nI (mSu M)), .int (nI (mDn M)), .int (bI (mLz M))])], [(rn1, iA (aC E 0) 5 fn6)], [(rk2, iA (aC E 0) 5 fk7)], ws9, wst10, fz]) (st1 := [.int (nI ((lB (mL M)) + List.length ges17)), .int (nI (mNx M k))]) rfl rfl ?_
  refine g_iconst hX (pc := 15) (v := 1) dX2_more_15 (by decide) ?_
  refine g_iadd hX (pc := 16) dX2_more_16 ?_
  refine g_eqi (nI (lLast (mL M) + 1)) (by rw [hl_ges17]; exact nI_1 _) ?_
  refine g_mmin hX (pc := 17) q232 (Nat.le_of_ble_eq_true rfl) (Nat.le_of_ble_eq_true rfl) (by omega) (by omega) q_m1min q_m2 q_m3min dX2_more_17 ?_
  refine g_eqi (nI (mNext M k)) (al_min (by omega) (by omega)) ?_
  refine g_istore_n hX (pc := 20) (lv1 := [(3, .int (nI (mNext M k))), (2, .ref rl3), (0, .ref m), (1, .int (nI k))]) dX2_more_20 (by decide) rfl ?_
  refine g_iload_n hX (pc := 21) dX2_more_21 0 rfl ?_
  refine g_aload_n hX (pc := 22) dX2_more_22 1 rfl ?_
  refine g_getN hX (pc := 23) fcX10 0 rfl 3 (by decide) q852 rfl (v := .int (nI (lB (mL M)))) rfl dX2_more_23 ?_
  refine g_icmp_gt hX (pc := 26) (tgt := 50) dX2_more_26 rfl (fun c21 => ?_) (fun c21 => ?_)
  · have d1 : lB (mL M) < mNext M k := (nI_ltI (by omega) (by omega)).mp c21
    refine g_new hX (pc := 50) fcX13 q977 q1041 q99 (fs := [.null, .int 0, .int 0, .int 0, .int 0, .int 0, .int 0, .int 0, .null, .null]) (fun j hj => by match j, hj with | 0, _ => rfl | 1, _ => rfl | 2, _ => rfl | 3, _ => rfl | 4, _ => rfl | 5, _ => rfl | 6, _ => rfl | 7, _ => rfl | 8, _ => rfl | 9, _ => rfl | j + 10, h => exact absurd h (by omega)) (by omega) (by omega) dX2_more_50 (fun q22 => ?_)
    refine g_dup hX (pc := 53) dX2_more_53 rfl ?_
    refine g_gets hX (pc := 54) (v := .ref (aW E 2)) ((cx_gs hX).2.1.1 2 (by decide)).1 q1137 rfl dX2_more_54 ?_
    refine g_iload_n hX (pc := 57) dX2_more_57 3 rfl ?_
    refine g_aload_n hX (pc := 58) dX2_more_58 2 rfl ?_
    refine g_iload_n hX (pc := 59) dX2_more_59 0 rfl ?_
    refine g_iconst hX (pc := 60) (v := 1) dX2_more_60 (by decide) ?_
    refine g_isub hX (pc := 61) dX2_more_61 ?_
    refine g_eqi (nI (mNext M k - 1)) (pk_sub (b := 1) (by omega)) ?_
    refine g_aload_n hX (pc := 62) dX2_more_62 1 rfl ?_
    refine g_iload_n hX (pc := 63) dX2_more_63 0 rfl ?_
    refine g_iconst hX (pc := 64) (v := 1) dX2_more_64 (by decide) ?_
    refine g_isub hX (pc := 65) dX2_more_65 ?_
    refine g_eqi (nI (mNext M k - 1)) (pk_sub (b := 1) (by omega)) ?_
    obtain ⟨g23, hg24, ht25⟩ := tm_ex (L := (mL M)) (n := mNext M k - 1) hges19 (by omega) (by omega)
    refine g_callV hX (pc := 66) kX10_termAt (mt_Log_termAt E l rl3 la15 (lT (mL M)) (lV (mL M)) (lB (mL M)) (lBT (mL M)) sp16 fz ges17 wl8 (mNext M k - 1) g23 hE18 (hg24) (by omega) (by omega)) q1044 fcX10 (sp_mem (i := 1) rfl) [1, 1, 6] rfl rfl rfl (Nat.le_of_ble_eq_true rfl) (Nat.le_of_ble_eq_true rfl) (Nat.le_of_ble_eq_true rfl) (by omega) (by omega) dX2_more_66 (fun v w1 hp => ?_)
    obtain ⟨rfl, rfl⟩ := hp
    refine g_nrm (cs1 := [[(rl3, ob 9 [.ref la15, .int (lT (mL M)), .int (lV (mL M)), .int (nI (lB (mL M))), .int (lBT (mL M)), .ref sp16])], wl8, fz, [(q22, ob 11 [.null, .int 0, .int 0, .int 0, .int 0, .int 0, .int 0, .int 0, .null, .null])], [(m, ob 8 [.int (nI (mN M)), .ref rn1, .ref rk2, .ref rl3, .ref rs4, .ref rst5, .int (mR M), .int (mVt M), .int (nI (mSu M)), .int (nI (mDn M)), .int (bI (mLz M))])], [(rn1, iA (aC E 0) 5 fn6)], [(rk2, iA (aC E 0) 5 fk7)], ws9, wst10]) (st1 := [.int (if (mNext M k - 1) = (lB (mL M)) then (lBT (mL M)) else g23.2.1), .int (nI (mNext M k - 1)), .ref m, .int (nI k), .ref (aW E 2), .ref q22, .ref q22]) rfl rfl ?_
    refine g_eqi (lTmA (mL M) (mNext M k - 1)) (ht25) ?_
    refine g_callI hX (pc := 69) kX13_init (mt_Message_init E l q22 (aW E 2) (nI k) (nI (mNext M k - 1)) (lTmA (mL M) (mNext M k - 1)) m (nI (mN M)) rn1 rk2 rl3 rs4 rst5 (mR M) (mVt M) (nI (mSu M)) (nI (mDn M)) (bI (mLz M)) la15 (lT (mL M)) (lV (mL M)) (lB (mL M)) (lBT (mL M)) sp16) q1049 [3, 3, 0] rfl rfl rfl (Nat.le_of_ble_eq_true rfl) (Nat.le_of_ble_eq_true rfl) (Nat.le_of_ble_eq_true rfl) (by omega) (by omega) dX2_more_69 (fun v w1 hp => ?_)
    obtain ⟨ra26, rfl, rfl⟩ := hp
    refine g_nrm (cs1 := [[(q22, ob 11 [.ref (aW E 2), .int (nI (mN M)), .int (nI k), .int (lT (mL M)), .int (nI (mNext M k - 1)), .int (lTmA (mL M) (mNext M k - 1)), .int 0, .int 0, .ref ra26, .ref sp16])], [(ra26, qA (aC E 3) 0 (fun _ => none))], [(m, ob 8 [.int (nI (mN M)), .ref rn1, .ref rk2, .ref rl3, .ref rs4, .ref rst5, .int (mR M), .int (mVt M), .int (nI (mSu M)), .int (nI (mDn M)), .int (bI (mLz M))])], [(rl3, ob 9 [.ref la15, .int (lT (mL M)), .int (lV (mL M)), .int (nI (lB (mL M))), .int (lBT (mL M)), .ref sp16])], wl8, fz, [(rn1, iA (aC E 0) 5 fn6)], [(rk2, iA (aC E 0) 5 fk7)], ws9, wst10]) (st1 := [.ref q22]) rfl rfl ?_
    refine g_astore hX (pc := 72) (lv1 := [(4, .ref q22), (3, .int (nI (mNext M k))), (2, .ref rl3), (0, .ref m), (1, .int (nI k))]) dX2_more_72 (by decide) rfl ?_
    refine g_aload hX (pc := 74) dX2_more_74 0 rfl ?_
    refine g_iconst hX (pc := 76) (v := 0) dX2_more_76 (by decide) ?_
    refine g_iconst hX (pc := 77) (v := 2) dX2_more_77 (by decide) ?_
    refine g_aload_n hX (pc := 78) dX2_more_78 2 rfl ?_
    refine g_callV hX (pc := 79) kX10_last (mt_Log_last E l rl3 la15 (lT (mL M)) (lV (mL M)) (lB (mL M)) (lBT (mL M)) sp16 fz ges17 wl8 hE18) q235 fcX10 (sp_mem (i := 3) rfl) [3, 3] rfl rfl rfl (Nat.le_of_ble_eq_true rfl) (Nat.le_of_ble_eq_true rfl) (Nat.le_of_ble_eq_true rfl) (by omega) (by omega) dX2_more_79 (fun v w1 hp => ?_)
    obtain ⟨rfl, rfl⟩ := hp
    refine g_nrm (cs1 := [[(rl3, ob 9 [.ref la15, .int (lT (mL M)), .int (lV (mL M)), .int (nI (lB (mL M))), .int (lBT (mL M)), .ref sp16])], wl8, [(q22, ob 11 [.ref (aW E 2), .int (nI (mN M)), .int (nI k), .int (lT (mL M)), .int (nI (mNext M k - 1)), .int (lTmA (mL M) (mNext M k - 1)), .int 0, .int 0, .ref ra26, .ref sp16])], [(ra26, qA (aC E 3) 0 (fun _ => none))], [(m, ob 8 [.int (nI (mN M)), .ref rn1, .ref rk2, .ref rl3, .ref rs4, .ref rst5, .int (mR M), .int (mVt M), .int (nI (mSu M)), .int (nI (mDn M)), .int (bI (mLz M))])], fz, [(rn1, iA (aC E 0) 5 fn6)], [(rk2, iA (aC E 0) 5 fk7)], ws9, wst10]) (st1 := [.int (nI ((lB (mL M)) + List.length ges17)), .int 2, .int 0, .ref q22]) rfl rfl ?_
    refine g_eqi (nI (lLast (mL M))) (by rw [hl_ges17]) ?_
    refine g_iload_n hX (pc := 82) dX2_more_82 1 rfl ?_
    refine g_isub hX (pc := 83) dX2_more_83 ?_
    refine g_iconst hX (pc := 84) (v := 1) dX2_more_84 (by decide) ?_
    refine g_iadd hX (pc := 85) dX2_more_85 ?_
    refine g_eqi (nI (lLast (mL M) + 1 - mNext M k)) (nI_s1 (by omega)) ?_
    refine g_mmin hX (pc := 86) q232 (Nat.le_of_ble_eq_true rfl) (Nat.le_of_ble_eq_true rfl) (by omega) (by omega) q_m1min q_m2 q_m3min dX2_more_86 ?_
    refine g_eqi (nI (min 2 (lLast (mL M) + 1 - mNext M k))) (al_min2 (by omega)) ?_
    refine g_mmax hX (pc := 89) q241 (Nat.le_of_ble_eq_true rfl) (Nat.le_of_ble_eq_true rfl) (by omega) (by omega) q_m1max q_m2 q_m3max dX2_more_89 ?_
    refine g_eqi (nI (min 2 (lLast (mL M) + 1 - mNext M k))) (al_max0 (by omega)) ?_
    refine g_newq hX (pc := 92) (t0 := 3) rfl q1110 hX.2.2.2.2.2.2.2.2.2.1.1.2.2.1 (min 2 (lLast (mL M) + 1 - mNext M k)) (nI_pos (by omega)) (nI_clamp (by omega)) (by omega) (by omega) (by omega) dX2_more_92 (fun q27 => ?_)
    refine g_putN hX (pc := 95) fcX13 3 (fs1 := [.ref (aW E 2), .int (nI (mN M)), .int (nI k), .int (lT (mL M)), .int (nI (mNext M k - 1)), .int (lTmA (mL M) (mNext M k - 1)), .int 0, .int 0, .ref q27, .ref sp16]) (cs1 := [[(q27, qA (aC E 3) (min 2 (lLast (mL M) + 1 - mNext M k)) (fun _ => none))], [(rl3, ob 9 [.ref la15, .int (lT (mL M)), .int (lV (mL M)), .int (nI (lB (mL M))), .int (lBT (mL M)), .ref sp16])], wl8, [(q22, ob 11 [.ref (aW E 2), .int (nI (mN M)), .int (nI k), .int (lT (mL M)), .int (nI (mNext M k - 1)), .int (lTmA (mL M) (mNext M k - 1)), .int 0, .int 0, .ref q27, .ref sp16])], [(ra26, qA (aC E 3) 0 (fun _ => none))], [(m, ob 8 [.int (nI (mN M)), .ref rn1, .ref rk2, .ref rl3, .ref rs4, .ref rst5, .int (mR M), .int (mVt M), .int (nI (mSu M)), .int (nI (mDn M)), .int (bI (mLz M))])], fz, [(rn1, iA (aC E 0) 5 fn6)], [(rk2, iA (aC E 0) 5 fk7)], ws9, wst10]) rfl 8 (by decide) q1072 rfl rfl rfl rfl (Nat.le_of_ble_eq_true rfl) rfl rfl dX2_more_95 ?_
    refine g_iconst hX (pc := 98) (v := 0) dX2_more_98 (by decide) ?_
    refine g_eqi (nI 0) (nI_0.symm) ?_
    refine g_istore hX (pc := 99) (lv1 := [(5, .int (nI 0)), (4, .ref q22), (3, .int (nI (mNext M k))), (2, .ref rl3), (0, .ref m), (1, .int (nI k))]) dX2_more_99 (by decide) rfl ?_
    have lp28 : ∀ (F1 : Nat) (i : Nat) (fa : Nat → Option Nat), (min 2 (lLast (mL M) + 1 - mNext M k)) - i < F1 → (i ≤ (min 2 (lLast (mL M) + 1 - mNext M k))) → (∀ j, j < i → fa j = (List.map Prod.fst (List.take 2 (List.drop (mNext M k - lB (mL M) - 1) ges17)))[j]?) → G E l X [[(q27, qA (aC E 3) (min 2 (lLast (mL M) + 1 - mNext M k)) fa)], [(rl3, ob 9 [.ref la15, .int (lT (mL M)), .int (lV (mL M)), .int (nI (lB (mL M))), .int (lBT (mL M)), .ref sp16])], wl8, [(q22, ob 11 [.ref (aW E 2), .int (nI (mN M)), .int (nI k), .int (lT (mL M)), .int (nI (mNext M k - 1)), .int (lTmA (mL M) (mNext M k - 1)), .int 0, .int 0, .ref q27, .ref sp16])], [(ra26, qA (aC E 3) 0 (fun _ => none))], [(m, ob 8 [.int (nI (mN M)), .ref rn1, .ref rk2, .ref rl3, .ref rs4, .ref rst5, .int (mR M), .int (mVt M), .int (nI (mSu M)), .int (nI (mDn M)), .int (bI (mLz M))])], fz, [(rn1, iA (aC E 0) 5 fn6)], [(rk2, iA (aC E 0) 5 fk7)], ws9, wst10] 3 12 101 [(5, .int (nI i)), (4, .ref q22), (3, .int (nI (mNext M k))), (2, .ref rl3), (0, .ref m), (1, .int (nI k))] [] := by
      intro F1
      induction F1 with
      | zero =>
        intro i fa hF hi hf
        exact absurd hF (Nat.not_lt_zero _)
      | succ F1 ih1 =>
        intro i fa hF hi hf
        refine g_iload hX (pc := 101) dX2_more_101 0 rfl ?_
        refine g_aload hX (pc := 103) dX2_more_103 1 rfl ?_
        refine g_getN hX (pc := 105) fcX13 3 rfl 8 (by decide) q1072 rfl (v := .ref q27) rfl dX2_more_105 ?_
        refine g_alen hX (pc := 108) (sp_mem (i := 0) rfl) 3 rfl (v := (nI (min 2 (lLast (mL M) + 1 - mNext M k)))) rfl dX2_more_108 ?_
        refine g_icmp_ge hX (pc := 109) (tgt := 134) dX2_more_109 rfl (fun c29 => ?_) (fun c29 => ?_)
        · have d2 : i = (min 2 (lLast (mL M) + 1 - mNext M k)) := by
            have := (nI_leI (by omega) (by omega)).mp c29
            omega
          refine g_aload hX (pc := 134) dX2_more_134 1 rfl ?_
          refine g_aload_n hX (pc := 136) dX2_more_136 4 rfl ?_
          refine g_getN hX (pc := 137) fcX9 5 rfl 8 (by decide) q945 rfl (v := .int (nI (mSu M))) rfl dX2_more_137 ?_
          refine g_putN hX (pc := 140) fcX13 3 (fs1 := [.ref (aW E 2), .int (nI (mN M)), .int (nI k), .int (lT (mL M)), .int (nI (mNext M k - 1)), .int (lTmA (mL M) (mNext M k - 1)), .int 0, .int (nI (mSu M)), .ref q27, .ref sp16]) (cs1 := [[(q27, qA (aC E 3) (min 2 (lLast (mL M) + 1 - mNext M k)) fa)], [(rl3, ob 9 [.ref la15, .int (lT (mL M)), .int (lV (mL M)), .int (nI (lB (mL M))), .int (lBT (mL M)), .ref sp16])], wl8, [(q22, ob 11 [.ref (aW E 2), .int (nI (mN M)), .int (nI k), .int (lT (mL M)), .int (nI (mNext M k - 1)), .int (lTmA (mL M) (mNext M k - 1)), .int 0, .int (nI (mSu M)), .ref q27, .ref sp16])], [(ra26, qA (aC E 3) 0 (fun _ => none))], [(m, ob 8 [.int (nI (mN M)), .ref rn1, .ref rk2, .ref rl3, .ref rs4, .ref rst5, .int (mR M), .int (mVt M), .int (nI (mSu M)), .int (nI (mDn M)), .int (bI (mLz M))])], fz, [(rn1, iA (aC E 0) 5 fn6)], [(rk2, iA (aC E 0) 5 fk7)], ws9, wst10]) rfl 7 (by decide) q1070 rfl rfl rfl rfl (Nat.le_of_ble_eq_true rfl) rfl rfl dX2_more_140 ?_
          refine g_aload hX (pc := 143) dX2_more_143 1 rfl ?_
          refine g_drop (cs1 := [[(q27, qA (aC E 3) (min 2 (lLast (mL M) + 1 - mNext M k)) fa)], [(rl3, ob 9 [.ref la15, .int (lT (mL M)), .int (lV (mL M)), .int (nI (lB (mL M))), .int (lBT (mL M)), .ref sp16])], wl8, [(q22, ob 11 [.ref (aW E 2), .int (nI (mN M)), .int (nI k), .int (lT (mL M)), .int (nI (mNext M k - 1)), .int (lTmA (mL M) (mNext M k - 1)), .int 0, .int (nI (mSu M)), .ref q27, .ref sp16])], [(m, ob 8 [.int (nI (mN M)), .ref rn1, .ref rk2, .ref rl3, .ref rs4, .ref rst5, .int (mR M), .int (mVt M), .int (nI (mSu M)), .int (nI (mDn M)), .int (bI (mLz M))])], fz, [(rn1, iA (aC E 0) 5 fn6)], [(rk2, iA (aC E 0) 5 fk7)], ws9, wst10]) [4] rfl ?_
          refine g_pk [3, 0, 3] rfl ?_
          refine g_cs (cs1 := [[(q22, ob 11 [.ref (aW E 2), .int (nI (mN M)), .int (nI k), .int (lT (mL M)), .int (nI (mNext M k - 1)), .int (lTmA (mL M) (mNext M k - 1)), .int 0, .int (nI (mSu M)), .ref q27, .ref sp16])], [(q27, qA (aC E 3) (min 2 (lLast (mL M) + 1 - mNext M k)) fa)], fz, [(rl3, ob 9 [.ref la15, .int (lT (mL M)), .int (lV (mL M)), .int (nI (lB (mL M))), .int (lBT (mL M)), .ref sp16])], wl8, [(m, ob 8 [.int (nI (mN M)), .ref rn1, .ref rk2, .ref rl3, .ref rs4, .ref rst5, .int (mR M), .int (mVt M), .int (nI (mSu M)), .int (nI (mDn M)), .int (bI (mLz M))])], [(rn1, iA (aC E 0) 5 fn6)], [(rk2, iA (aC E 0) 5 fk7)], ws9, wst10]) rfl ?_
          refine g_fl (cs1 := [((q22, ob 11 [.ref (aW E 2), .int (nI (mN M)), .int (nI k), .int (lT (mL M)), .int (nI (mNext M k - 1)), .int (lTmA (mL M) (mNext M k - 1)), .int 0, .int (nI (mSu M)), .ref q27, .ref sp16]) :: ((q27, qA (aC E 3) (min 2 (lLast (mL M) + 1 - mNext M k)) fa) :: (fz))), [(rl3, ob 9 [.ref la15, .int (lT (mL M)), .int (lV (mL M)), .int (nI (lB (mL M))), .int (lBT (mL M)), .ref sp16])], wl8, [(m, ob 8 [.int (nI (mN M)), .ref rn1, .ref rk2, .ref rl3, .ref rs4, .ref rst5, .int (mR M), .int (mVt M), .int (nI (mSu M)), .int (nI (mDn M)), .int (bI (mLz M))])], [(rn1, iA (aC E 0) 5 fn6)], [(rk2, iA (aC E 0) 5 fk7)], ws9, wst10]) (by simp only [List.flatten_cons, List.flatten_nil, List.cons_append, List.append_assoc, List.nil_append, List.append_nil]) ?_
          have hx31 : Ext E fz ((q22, ob 11 [.ref (aW E 2), .int (nI (mN M)), .int (nI k), .int (lT (mL M)), .int (nI (mNext M k - 1)), .int (lTmA (mL M) (mNext M k - 1)), .int 0, .int (nI (mSu M)), .ref q27, .ref sp16]) :: ((q27, qA (aC E 3) (min 2 (lLast (mL M) + 1 - mNext M k)) fa) :: (fz))) := fun q hq => (List.mem_cons_of_mem _ (List.mem_cons_of_mem _ hq))
          have hm32 : (q22, ob 11 [.ref (aW E 2), .int (nI (mN M)), .int (nI k), .int (lT (mL M)), .int (nI (mNext M k - 1)), .int (lTmA (mL M) (mNext M k - 1)), .int 0, .int (nI (mSu M)), .ref q27, .ref sp16]) ∈ ((q22, ob 11 [.ref (aW E 2), .int (nI (mN M)), .int (nI k), .int (lT (mL M)), .int (nI (mNext M k - 1)), .int (lTmA (mL M) (mNext M k - 1)), .int 0, .int (nI (mSu M)), .ref q27, .ref sp16]) :: ((q27, qA (aC E 3) (min 2 (lLast (mL M) + 1 - mNext M k)) fa) :: (fz))) := (List.mem_cons_self)
          have hm33 : (q27, qA (aC E 3) (min 2 (lLast (mL M) + 1 - mNext M k)) fa) ∈ ((q22, ob 11 [.ref (aW E 2), .int (nI (mN M)), .int (nI k), .int (lT (mL M)), .int (nI (mNext M k - 1)), .int (lTmA (mL M) (mNext M k - 1)), .int 0, .int (nI (mSu M)), .ref q27, .ref sp16]) :: ((q27, qA (aC E 3) (min 2 (lLast (mL M) + 1 - mNext M k)) fa) :: (fz))) := (List.mem_cons_of_mem _ (List.mem_cons_self))
          generalize ((q22, ob 11 [.ref (aW E 2), .int (nI (mN M)), .int (nI k), .int (lT (mL M)), .int (nI (mNext M k - 1)), .int (lTmA (mL M) (mNext M k - 1)), .int 0, .int (nI (mSu M)), .ref q27, .ref sp16]) :: ((q27, qA (aC E 3) (min 2 (lLast (mL M) + 1 - mNext M k)) fa) :: (fz))) = fz30 at hx31 hm32 hm33 ⊢
          have h34 := EL.mono hx31 hE18
          have h35 := StIn.mono hx31 hsp20
          have h36 := IsLog.mono hx31 hV13
          have hgl : ((List.take 2 (List.drop (mNext M k - lB (mL M) - 1) ges17))).length = (min 2 (lLast (mL M) + 1 - mNext M k)) := by rw [List.length_take, List.length_drop]; omega
          have hmm : MsgIn E fz30 q22 (mMore M k) := by
            rw [show mMore M k = ((2, mN M, k), (lT (mL M), mNext M k - 1, lTmA (mL M) (mNext M k - 1)), (false, mSu M, ((lE (mL M)).drop (mNext M k - lB (mL M) - 1)).take 2, lS (mL M))) from if_neg (by omega)]
            refine ⟨_, _, (List.take 2 (List.drop (mNext M k - lB (mL M) - 1) ges17)), fa, hm32, by rw [hgl]; exact hm33, ?_, ?_, ?_, h35⟩
            · intro j hj
              exact hf j (by omega)
            · rw [List.map_take, List.map_drop, hges19]
            · intro g hg
              exact h34.2 g (List.mem_of_mem_drop (List.mem_of_mem_take hg))
          refine g_pk [3, 3, 3, 1, 1, 1, 1] rfl ?_
          refine g_cs (cs1 := [[(m, ob 8 [.int (nI (mN M)), .ref rn1, .ref rk2, .ref rl3, .ref rs4, .ref rst5, .int (mR M), .int (mVt M), .int (nI (mSu M)), .int (nI (mDn M)), .int (bI (mLz M))])], [(rn1, iA (aC E 0) 5 fn6)], [(rk2, iA (aC E 0) 5 fk7)], [(rl3, ob 9 [.ref la15, .int (lT (mL M)), .int (lV (mL M)), .int (nI (lB (mL M))), .int (lBT (mL M)), .ref sp16])], wl8, ws9, wst10, fz30]) rfl ?_
          refine g_fl (cs1 := [((m, ob 8 [.int (nI (mN M)), .ref rn1, .ref rk2, .ref rl3, .ref rs4, .ref rst5, .int (mR M), .int (mVt M), .int (nI (mSu M)), .int (nI (mDn M)), .int (bI (mLz M))]) :: (rn1, iA (aC E 0) 5 fn6) :: (rk2, iA (aC E 0) 5 fk7) :: (((rl3, ob 9 [.ref la15, .int (lT (mL M)), .int (lV (mL M)), .int (nI (lB (mL M))), .int (lBT (mL M)), .ref sp16]) :: wl8) ++ (ws9 ++ wst10))), fz30]) (by simp only [List.flatten_cons, List.flatten_nil, List.cons_append, List.append_assoc, List.nil_append, List.append_nil]) ?_
          have hM37 : IsMach E fz30 m M ((m, ob 8 [.int (nI (mN M)), .ref rn1, .ref rk2, .ref rl3, .ref rs4, .ref rst5, .int (mR M), .int (mVt M), .int (nI (mSu M)), .int (nI (mDn M)), .int (bI (mLz M))]) :: (rn1, iA (aC E 0) 5 fn6) :: (rk2, iA (aC E 0) 5 fk7) :: (((rl3, ob 9 [.ref la15, .int (lT (mL M)), .int (lV (mL M)), .int (nI (lB (mL M))), .int (lBT (mL M)), .ref sp16]) :: wl8) ++ (ws9 ++ wst10))) := ⟨_, _, _, _, _, _, _, _, _, _, hn11, ⟨_, _, _, _, h34, hges19, h35, rfl⟩, h36, hS14, rfl⟩
          generalize ((m, ob 8 [.int (nI (mN M)), .ref rn1, .ref rk2, .ref rl3, .ref rs4, .ref rst5, .int (mR M), .int (mVt M), .int (nI (mSu M)), .int (nI (mDn M)), .int (bI (mLz M))]) :: (rn1, iA (aC E 0) 5 fn6) :: (rk2, iA (aC E 0) 5 fk7) :: (((rl3, ob 9 [.ref la15, .int (lT (mL M)), .int (lV (mL M)), .int (nI (lB (mL M))), .int (lBT (mL M)), .ref sp16]) :: wl8) ++ (ws9 ++ wst10))) = wk38 at hM37 ⊢
          refine g_aret hX (pc := 145) hR (by first | exact Or.inl ⟨_, rfl⟩ | exact Or.inr ⟨_, rfl⟩) ?_ (by omega) (by omega) dX2_more_145
          exact ⟨_, _, _, hx31, hmm, hM37, rfl, rfl⟩
        · have d2 : i < (min 2 (lLast (mL M) + 1 - mNext M k)) := by
            have := mt (nI_leI (a := (min 2 (lLast (mL M) + 1 - mNext M k))) (b := i) (by omega) (by omega)).mpr c29
            omega
          obtain ⟨g, hg⟩ := get_ex (l := ges17) (i := mNext M k + i - lB (mL M) - 1) (by omega)
          have hz := (en_at hE18.2 hg).1
          refine g_aload hX (pc := 112) dX2_more_112 1 rfl ?_
          refine g_getN hX (pc := 114) fcX13 3 rfl 8 (by decide) q1072 rfl (v := .ref q27) rfl dX2_more_114 ?_
          refine g_iload hX (pc := 117) dX2_more_117 0 rfl ?_
          refine g_aload_n hX (pc := 119) dX2_more_119 3 rfl ?_
          refine g_iload_n hX (pc := 120) dX2_more_120 2 rfl ?_
          refine g_iload hX (pc := 121) dX2_more_121 0 rfl ?_
          refine g_iadd hX (pc := 123) dX2_more_123 ?_
          refine g_eqi (nI (mNext M k + i)) (nI_add _ _) ?_
          refine g_callV hX (pc := 124) kX10_at (mt_Log_at E l rl3 la15 (lT (mL M)) (lV (mL M)) (lB (mL M)) (lBT (mL M)) sp16 fz ges17 wl8 (mNext M k + i) g hE18 (hg) (by omega) (by omega)) q248 fcX10 (sp_mem (i := 1) rfl) [1, 1, 4] rfl rfl rfl (Nat.le_of_ble_eq_true rfl) (Nat.le_of_ble_eq_true rfl) (Nat.le_of_ble_eq_true rfl) (by omega) (by omega) dX2_more_124 (fun v w1 hp => ?_)
          obtain ⟨rfl, rfl⟩ := hp
          refine g_nrm (cs1 := [[(rl3, ob 9 [.ref la15, .int (lT (mL M)), .int (lV (mL M)), .int (nI (lB (mL M))), .int (lBT (mL M)), .ref sp16])], wl8, fz, [(q27, qA (aC E 3) (min 2 (lLast (mL M) + 1 - mNext M k)) fa)], [(q22, ob 11 [.ref (aW E 2), .int (nI (mN M)), .int (nI k), .int (lT (mL M)), .int (nI (mNext M k - 1)), .int (lTmA (mL M) (mNext M k - 1)), .int 0, .int 0, .ref q27, .ref sp16])], [(ra26, qA (aC E 3) 0 (fun _ => none))], [(m, ob 8 [.int (nI (mN M)), .ref rn1, .ref rk2, .ref rl3, .ref rs4, .ref rst5, .int (mR M), .int (mVt M), .int (nI (mSu M)), .int (nI (mDn M)), .int (bI (mLz M))])], [(rn1, iA (aC E 0) 5 fn6)], [(rk2, iA (aC E 0) 5 fk7)], ws9, wst10]) (st1 := [.ref g.1, .int (nI i), .ref q27]) rfl rfl ?_
          refine g_aast hX (pc := 127) (t0 := 3) rfl (f1 := (va_up fa i (some g.1))) (cs1 := [[(rl3, ob 9 [.ref la15, .int (lT (mL M)), .int (lV (mL M)), .int (nI (lB (mL M))), .int (lBT (mL M)), .ref sp16])], wl8, fz, [(q27, qA (aC E 3) (min 2 (lLast (mL M) + 1 - mNext M k)) (va_up fa i (some g.1)))], [(q22, ob 11 [.ref (aW E 2), .int (nI (mN M)), .int (nI k), .int (lT (mL M)), .int (nI (mNext M k - 1)), .int (lTmA (mL M) (mNext M k - 1)), .int 0, .int 0, .ref q27, .ref sp16])], [(ra26, qA (aC E 3) 0 (fun _ => none))], [(m, ob 8 [.int (nI (mN M)), .ref rn1, .ref rk2, .ref rl3, .ref rs4, .ref rst5, .int (mR M), .int (mVt M), .int (nI (mSu M)), .int (nI (mDn M)), .int (bI (mLz M))])], [(rn1, iA (aC E 0) 5 fn6)], [(rk2, iA (aC E 0) 5 fk7)], ws9, wst10]) 3 rfl (fun H locs hP hS => any_self (ci := 12) hX hP (sp_in 2 rfl hz) rfl) (vp_in_nI (by omega) (by omega)) (by rw [nI_clamp (by omega)]) rfl dX2_more_127 ?_
          refine g_iinc hX (pc := 128) (v := nI (i + 1)) (lv1 := [(5, .int (nI (i + 1))), (4, .ref q22), (3, .int (nI (mNext M k))), (2, .ref rl3), (0, .ref m), (1, .int (nI k))]) dX2_more_128 0 rfl (nI_1 _) (by decide) rfl ?_
          refine g_goto hX (pc := 131) (tgt := 101) dX2_more_131 rfl ?_
          refine g_pk [3, 0, 0, 1, 1, 1, 0, 0, 0, 0, 0] rfl ?_
          refine g_cs (cs1 := [[(q27, qA (aC E 3) (min 2 (lLast (mL M) + 1 - mNext M k)) (va_up fa i (some g.1)))], [(rl3, ob 9 [.ref la15, .int (lT (mL M)), .int (lV (mL M)), .int (nI (lB (mL M))), .int (lBT (mL M)), .ref sp16])], wl8, [(q22, ob 11 [.ref (aW E 2), .int (nI (mN M)), .int (nI k), .int (lT (mL M)), .int (nI (mNext M k - 1)), .int (lTmA (mL M) (mNext M k - 1)), .int 0, .int 0, .ref q27, .ref sp16])], [(ra26, qA (aC E 3) 0 (fun _ => none))], [(m, ob 8 [.int (nI (mN M)), .ref rn1, .ref rk2, .ref rl3, .ref rs4, .ref rst5, .int (mR M), .int (mVt M), .int (nI (mSu M)), .int (nI (mDn M)), .int (bI (mLz M))])], fz, [(rn1, iA (aC E 0) 5 fn6)], [(rk2, iA (aC E 0) 5 fk7)], ws9, wst10]) rfl ?_
          refine g_widen (kc1 := 3) (ks1 := 12) (by omega) (by omega) ?_
          exact ih1 (i + 1) (va_up fa i (some g.1)) (by omega) (by omega) (by
  intro j hj
  by_cases hji : j = i
  · subst hji
    rw [upO_s, List.getElem?_map, List.getElem?_take, if_pos (by omega), List.getElem?_drop, show mNext M k - lB (mL M) - 1 + j = mNext M k + j - lB (mL M) - 1 by omega, hg]
    rfl
  · rw [upO_n hji]
    exact hf j (by omega))
    refine g_widen (kc1 := 3) (ks1 := 12) (by omega) (by omega) ?_
    exact lp28 (((min 2 (lLast (mL M) + 1 - mNext M k)) - 0) + 1) 0 (fun _ => none) (Nat.lt_succ_self _) (Nat.zero_le _) (fun j hj => absurd hj (Nat.not_lt_zero _))
  · have d1 : mNext M k ≤ lB (mL M) := by
      have := mt (nI_ltI (by omega) (by omega)).mpr c21
      omega
    refine g_new hX (pc := 29) fcX13 q977 q1041 q99 (fs := [.null, .int 0, .int 0, .int 0, .int 0, .int 0, .int 0, .int 0, .null, .null]) (fun j hj => by match j, hj with | 0, _ => rfl | 1, _ => rfl | 2, _ => rfl | 3, _ => rfl | 4, _ => rfl | 5, _ => rfl | 6, _ => rfl | 7, _ => rfl | 8, _ => rfl | 9, _ => rfl | j + 10, h => exact absurd h (by omega)) (by omega) (by omega) dX2_more_29 (fun q39 => ?_)
    refine g_dup hX (pc := 32) dX2_more_32 rfl ?_
    refine g_gets hX (pc := 33) (v := .ref (aW E 4)) ((cx_gs hX).2.1.1 4 (by decide)).1 q1135 rfl dX2_more_33 ?_
    refine g_iload_n hX (pc := 36) dX2_more_36 3 rfl ?_
    refine g_aload_n hX (pc := 37) dX2_more_37 2 rfl ?_
    refine g_aload_n hX (pc := 38) dX2_more_38 1 rfl ?_
    refine g_getN hX (pc := 39) fcX10 1 rfl 3 (by decide) q852 rfl (v := .int (nI (lB (mL M)))) rfl dX2_more_39 ?_
    refine g_aload_n hX (pc := 42) dX2_more_42 1 rfl ?_
    refine g_getN hX (pc := 43) fcX10 1 rfl 4 (by decide) q855 rfl (v := .int (lBT (mL M))) rfl dX2_more_43 ?_
    refine g_callI hX (pc := 46) kX13_init (mt_Message_init E l q39 (aW E 4) (nI k) (nI (lB (mL M))) (lBT (mL M)) m (nI (mN M)) rn1 rk2 rl3 rs4 rst5 (mR M) (mVt M) (nI (mSu M)) (nI (mDn M)) (bI (mLz M)) la15 (lT (mL M)) (lV (mL M)) (lB (mL M)) (lBT (mL M)) sp16) q1049 [0, 2, 0] rfl rfl rfl (Nat.le_of_ble_eq_true rfl) (Nat.le_of_ble_eq_true rfl) (Nat.le_of_ble_eq_true rfl) (by omega) (by omega) dX2_more_46 (fun v w1 hp => ?_)
    obtain ⟨ra40, rfl, rfl⟩ := hp
    refine g_nrm (cs1 := [[(q39, ob 11 [.ref (aW E 4), .int (nI (mN M)), .int (nI k), .int (lT (mL M)), .int (nI (lB (mL M))), .int (lBT (mL M)), .int 0, .int 0, .ref ra40, .ref sp16])], [(ra40, qA (aC E 3) 0 (fun _ => none))], [(m, ob 8 [.int (nI (mN M)), .ref rn1, .ref rk2, .ref rl3, .ref rs4, .ref rst5, .int (mR M), .int (mVt M), .int (nI (mSu M)), .int (nI (mDn M)), .int (bI (mLz M))])], [(rl3, ob 9 [.ref la15, .int (lT (mL M)), .int (lV (mL M)), .int (nI (lB (mL M))), .int (lBT (mL M)), .ref sp16])], wl8, [(rn1, iA (aC E 0) 5 fn6)], [(rk2, iA (aC E 0) 5 fk7)], ws9, wst10, fz]) (st1 := [.ref q39]) rfl rfl ?_
    refine g_pk [0, 0, 7] rfl ?_
    refine g_cs (cs1 := [[(q39, ob 11 [.ref (aW E 4), .int (nI (mN M)), .int (nI k), .int (lT (mL M)), .int (nI (lB (mL M))), .int (lBT (mL M)), .int 0, .int 0, .ref ra40, .ref sp16])], [(ra40, qA (aC E 3) 0 (fun _ => none))], fz, [(m, ob 8 [.int (nI (mN M)), .ref rn1, .ref rk2, .ref rl3, .ref rs4, .ref rst5, .int (mR M), .int (mVt M), .int (nI (mSu M)), .int (nI (mDn M)), .int (bI (mLz M))])], [(rl3, ob 9 [.ref la15, .int (lT (mL M)), .int (lV (mL M)), .int (nI (lB (mL M))), .int (lBT (mL M)), .ref sp16])], wl8, [(rn1, iA (aC E 0) 5 fn6)], [(rk2, iA (aC E 0) 5 fk7)], ws9, wst10]) rfl ?_
    refine g_fl (cs1 := [((q39, ob 11 [.ref (aW E 4), .int (nI (mN M)), .int (nI k), .int (lT (mL M)), .int (nI (lB (mL M))), .int (lBT (mL M)), .int 0, .int 0, .ref ra40, .ref sp16]) :: ((ra40, qA (aC E 3) 0 (fun _ => none)) :: (fz))), [(m, ob 8 [.int (nI (mN M)), .ref rn1, .ref rk2, .ref rl3, .ref rs4, .ref rst5, .int (mR M), .int (mVt M), .int (nI (mSu M)), .int (nI (mDn M)), .int (bI (mLz M))])], [(rl3, ob 9 [.ref la15, .int (lT (mL M)), .int (lV (mL M)), .int (nI (lB (mL M))), .int (lBT (mL M)), .ref sp16])], wl8, [(rn1, iA (aC E 0) 5 fn6)], [(rk2, iA (aC E 0) 5 fk7)], ws9, wst10]) (by simp only [List.flatten_cons, List.flatten_nil, List.cons_append, List.append_assoc, List.nil_append, List.append_nil]) ?_
    have hx42 : Ext E fz ((q39, ob 11 [.ref (aW E 4), .int (nI (mN M)), .int (nI k), .int (lT (mL M)), .int (nI (lB (mL M))), .int (lBT (mL M)), .int 0, .int 0, .ref ra40, .ref sp16]) :: ((ra40, qA (aC E 3) 0 (fun _ => none)) :: (fz))) := fun q hq => (List.mem_cons_of_mem _ (List.mem_cons_of_mem _ hq))
    have hm43 : (q39, ob 11 [.ref (aW E 4), .int (nI (mN M)), .int (nI k), .int (lT (mL M)), .int (nI (lB (mL M))), .int (lBT (mL M)), .int 0, .int 0, .ref ra40, .ref sp16]) ∈ ((q39, ob 11 [.ref (aW E 4), .int (nI (mN M)), .int (nI k), .int (lT (mL M)), .int (nI (lB (mL M))), .int (lBT (mL M)), .int 0, .int 0, .ref ra40, .ref sp16]) :: ((ra40, qA (aC E 3) 0 (fun _ => none)) :: (fz))) := (List.mem_cons_self)
    have hm44 : (ra40, qA (aC E 3) 0 (fun _ => none)) ∈ ((q39, ob 11 [.ref (aW E 4), .int (nI (mN M)), .int (nI k), .int (lT (mL M)), .int (nI (lB (mL M))), .int (lBT (mL M)), .int 0, .int 0, .ref ra40, .ref sp16]) :: ((ra40, qA (aC E 3) 0 (fun _ => none)) :: (fz))) := (List.mem_cons_of_mem _ (List.mem_cons_self))
    generalize ((q39, ob 11 [.ref (aW E 4), .int (nI (mN M)), .int (nI k), .int (lT (mL M)), .int (nI (lB (mL M))), .int (lBT (mL M)), .int 0, .int 0, .ref ra40, .ref sp16]) :: ((ra40, qA (aC E 3) 0 (fun _ => none)) :: (fz))) = fz41 at hx42 hm43 hm44 ⊢
    have h45 := EL.mono hx42 hE18
    have h46 := StIn.mono hx42 hsp20
    have h47 := IsLog.mono hx42 hV13
    have hmm : MsgIn E fz41 q39 (mMore M k) := by
      rw [show mMore M k = mk0 4 M k (lB (mL M)) (lBT (mL M)) from if_pos d1]
      exact ⟨_, _, [], _, hm43, hm44, by simp, rfl, by simp, h46⟩
    refine g_pk [1, 3, 3, 1, 1, 1, 1] rfl ?_
    refine g_cs (cs1 := [[(m, ob 8 [.int (nI (mN M)), .ref rn1, .ref rk2, .ref rl3, .ref rs4, .ref rst5, .int (mR M), .int (mVt M), .int (nI (mSu M)), .int (nI (mDn M)), .int (bI (mLz M))])], [(rn1, iA (aC E 0) 5 fn6)], [(rk2, iA (aC E 0) 5 fk7)], [(rl3, ob 9 [.ref la15, .int (lT (mL M)), .int (lV (mL M)), .int (nI (lB (mL M))), .int (lBT (mL M)), .ref sp16])], wl8, ws9, wst10, fz41]) rfl ?_
    refine g_fl (cs1 := [((m, ob 8 [.int (nI (mN M)), .ref rn1, .ref rk2, .ref rl3, .ref rs4, .ref rst5, .int (mR M), .int (mVt M), .int (nI (mSu M)), .int (nI (mDn M)), .int (bI (mLz M))]) :: (rn1, iA (aC E 0) 5 fn6) :: (rk2, iA (aC E 0) 5 fk7) :: (((rl3, ob 9 [.ref la15, .int (lT (mL M)), .int (lV (mL M)), .int (nI (lB (mL M))), .int (lBT (mL M)), .ref sp16]) :: wl8) ++ (ws9 ++ wst10))), fz41]) (by simp only [List.flatten_cons, List.flatten_nil, List.cons_append, List.append_assoc, List.nil_append, List.append_nil]) ?_
    have hM48 : IsMach E fz41 m M ((m, ob 8 [.int (nI (mN M)), .ref rn1, .ref rk2, .ref rl3, .ref rs4, .ref rst5, .int (mR M), .int (mVt M), .int (nI (mSu M)), .int (nI (mDn M)), .int (bI (mLz M))]) :: (rn1, iA (aC E 0) 5 fn6) :: (rk2, iA (aC E 0) 5 fk7) :: (((rl3, ob 9 [.ref la15, .int (lT (mL M)), .int (lV (mL M)), .int (nI (lB (mL M))), .int (lBT (mL M)), .ref sp16]) :: wl8) ++ (ws9 ++ wst10))) := ⟨_, _, _, _, _, _, _, _, _, _, hn11, ⟨_, _, _, _, h45, hges19, h46, rfl⟩, h47, hS14, rfl⟩
    generalize ((m, ob 8 [.int (nI (mN M)), .ref rn1, .ref rk2, .ref rl3, .ref rs4, .ref rst5, .int (mR M), .int (mVt M), .int (nI (mSu M)), .int (nI (mDn M)), .int (bI (mLz M))]) :: (rn1, iA (aC E 0) 5 fn6) :: (rk2, iA (aC E 0) 5 fk7) :: (((rl3, ob 9 [.ref la15, .int (lT (mL M)), .int (lV (mL M)), .int (nI (lB (mL M))), .int (lBT (mL M)), .ref sp16]) :: wl8) ++ (ws9 ++ wst10))) = wk49 at hM48 ⊢
    refine g_aret hX (pc := 49) hR (by first | exact Or.inl ⟨_, rfl⟩ | exact Or.inr ⟨_, rfl⟩) ?_ (by omega) (by omega) dX2_more_49
    exact ⟨_, _, _, hx42, hmm, hM48, rfl, rfl⟩

set_option maxHeartbeats 4000000 in
theorem mt_Net_beat (E : EE) (l : Launch) (n : Nat) (lm : Nat) (lb : Nat) (lr : Nat) (nw : Int32) (mas : List Nat) (wm : va_W) (m : Nat) (M : PM) (wk : va_W) (fz : va_W) (B : PB) (wb : va_W) (hA : AL E lm mas wm) (hsz : (List.length mas ≤ 5)) (hM : IsMach E fz m M wk) (hB : BL E fz lb (Prod.fst B) wb) (hxa : (∀ k, k < 5 → 1 ≤ mNx M k ∧ mNx M k ≤ 1000)) (hl : (lLast (mL M) ≤ 1000)) (hmn : (mN M < 5)) (hn : (List.length (Prod.fst B) ≤ 30)) : Mt E l yX2_beat cX2_beat 3 none 8 (4 * List.length mas) (82 * List.length mas) 192 [.ref n, .ref m] [[(n, ob 1 [.ref lm, .ref lb, .ref lr, .int (Prod.snd B), .int nw])], wm, wk, wb, fz] (fun (v_ : Option Value) (cs_ : List va_W) => ∃ (fz1 : va_W) (w1 : va_W) (w2 : va_W), Ext E fz fz1 ∧ IsMach E fz1 m M w1 ∧ BL E fz1 lb (Prod.fst (toAll (mMore M) (mN M) B (List.length mas))) w2 ∧ v_ = none ∧ cs_ = [[(n, ob 1 [.ref lm, .ref lb, .ref lr, .int (Prod.snd (toAll (mMore M) (mN M) B (List.length mas))), .int nw])], w1, wm, w2, fz1]) := by
  refine Mt.of (by decide) (Nat.le_of_ble_eq_true rfl) (fun X hX hR hin => ?_)
  refine g_lv1 (lv1 := [(0, .ref n), (1, .ref m)]) rfl ?_
  refine g_iconst hX (pc := 0) (v := 0) dX2_beat_0 (by decide) ?_
  refine g_eqi (nI 0) (nI_0.symm) ?_
  refine g_istore_n hX (pc := 1) (lv1 := [(2, .int (nI 0)), (0, .ref n), (1, .ref m)]) dX2_beat_1 (by decide) rfl ?_
  have lp1 : ∀ (F1 : Nat) (i : Nat) (fzL : va_W) (wkL : va_W) (wbL : va_W), List.length mas - i < F1 → (i ≤ List.length mas) → Ext E fz fzL → IsMach E fzL m M wkL → BL E fzL lb (Prod.fst (toAll (mMore M) (mN M) B i)) wbL → G E l X [[(n, ob 1 [.ref lm, .ref lb, .ref lr, .int (Prod.snd (toAll (mMore M) (mN M) B i)), .int nw])], wm, wkL, wbL, fzL] (0 + 4 * i) (0 + 82 * i) 2 [(2, .int (nI i)), (0, .ref n), (1, .ref m)] [] := by
    intro F1
    induction F1 with
    | zero =>
      intro i fzL wkL wbL hF hi hxL hML hBL
      exact absurd hF (Nat.not_lt_zero _)
    | succ F1 ih1 =>
      intro i fzL wkL wbL hF hi hxL hML hBL
      refine g_iload_n hX (pc := 2) dX2_beat_2 0 rfl ?_
      refine g_aload_n hX (pc := 3) dX2_beat_3 1 rfl ?_
      refine g_get hX (pc := 4) fcX2 0 rfl 0 (by decide) q155 rfl (v := .ref lm) rfl dX2_beat_4 ?_
      obtain ⟨fs2, hm3⟩ := AL.head hA
      refine g_callF hX (pc := 7) kfJ2_size (mt_AL_size E l lm mas wm hA) q189 fcJ2 (sp_in 1 rfl hm3) [1] rfl rfl rfl (Nat.le_of_ble_eq_true rfl) (Nat.le_of_ble_eq_true rfl) (Nat.le_of_ble_eq_true rfl) (by omega) (by omega) dX2_beat_7 (fun v w1 hp => ?_)
      obtain ⟨rfl, rfl⟩ := hp
      refine g_nrm (cs1 := [wm, [(n, ob 1 [.ref lm, .ref lb, .ref lr, .int (Prod.snd (toAll (mMore M) (mN M) B i)), .int nw])], wkL, wbL, fzL]) (st1 := [.int (nI (List.length mas)), .int (nI i)]) rfl rfl ?_
      refine g_icmp_ge hX (pc := 12) (tgt := 38) dX2_beat_12 rfl (fun c4 => ?_) (fun c4 => ?_)
      · have d1 : i = List.length mas := by
          have := (nI_leI (by omega) (by omega)).mp c4
          omega
        have ht5 : List.length mas = i := d1.symm
        refine g_cs (cs1 := [wm, [(n, ob 1 [.ref lm, .ref lb, .ref lr, .int (Prod.snd (toAll (mMore M) (mN M) B (List.length mas))), .int nw])], wkL, wbL, fzL]) (by rw [ht5]) ?_
        refine g_lv1 (lv1 := [(2, .int (nI (List.length mas))), (0, .ref n), (1, .ref m)]) (by rw [ht5]) ?_
        have h6 : BL E fzL lb (Prod.fst (toAll (mMore M) (mN M) B (List.length mas))) wbL := by rw [ht5]; exact hBL
        refine g_pk [1, 1, 0, 0, 0] rfl ?_
        refine g_cs (cs1 := [[(n, ob 1 [.ref lm, .ref lb, .ref lr, .int (Prod.snd (toAll (mMore M) (mN M) B (List.length mas))), .int nw])], wkL, wm, wbL, fzL]) rfl ?_
        refine g_vret hX (pc := 38) hR ?_ (by omega) (by omega) dX2_beat_38
        exact ⟨_, _, _, hxL, hML, h6, rfl, rfl⟩
      · have d1 : i < List.length mas := by
          have := mt (nI_leI (by omega) (by omega)).mpr c4
          omega
        have hle := toAll_le (f := mMore M) (me := mN M) hn i
        obtain ⟨rn7, rk8, rl9, rs10, rst11, la12, sp13, hpk14, hpl15⟩ := hML.peek
        refine g_iload_n hX (pc := 15) dX2_beat_15 0 rfl ?_
        refine g_aload_n hX (pc := 16) dX2_beat_16 2 rfl ?_
        refine g_getNm hX (pc := 17) fcX9 (sp_in 2 rfl hpk14) 0 (by decide) q926 rfl (v := .int (nI (mN M))) rfl dX2_beat_17 ?_
        refine g_icmp_eq hX (pc := 20) (tgt := 32) dX2_beat_20 rfl (fun c16 => ?_) (fun c16 => ?_)
        · have d2 : i = mN M := (nI_eq (by omega) (by omega)).mp c16
          have ht17 : toAll (mMore M) (mN M) B (i + 1) = toAll (mMore M) (mN M) B i := toAll_p d2
          refine g_cs (cs1 := [wm, [(n, ob 1 [.ref lm, .ref lb, .ref lr, .int (Prod.snd (toAll (mMore M) (mN M) B (i + 1))), .int nw])], wkL, wbL, fzL]) (by rw [ht17]) ?_
          have h18 : BL E fzL lb (Prod.fst (toAll (mMore M) (mN M) B (i + 1))) wbL := by rw [ht17]; exact hBL
          refine g_iinc hX (pc := 32) (v := nI (i + 1)) (lv1 := [(2, .int (nI (i + 1))), (0, .ref n), (1, .ref m)]) dX2_beat_32 0 rfl (nI_1 _) (by decide) rfl ?_
          refine g_goto hX (pc := 35) (tgt := 2) dX2_beat_35 rfl ?_
          refine g_pk [1, 0, 0, 0, 0] rfl ?_
          refine g_cs (cs1 := [[(n, ob 1 [.ref lm, .ref lb, .ref lr, .int (Prod.snd (toAll (mMore M) (mN M) B (i + 1))), .int nw])], wm, wkL, wbL, fzL]) rfl ?_
          refine g_widen (kc1 := 0 + 4 * (i + 1)) (ks1 := 0 + 82 * (i + 1)) (by omega) (by omega) ?_
          exact ih1 (i + 1) fzL wkL wbL (by omega) (by omega) hxL hML h18
        · have d2 : ¬ i = mN M := mt (nI_eq (by omega) (by omega)).mpr c16
          refine g_aload_n hX (pc := 23) dX2_beat_23 1 rfl ?_
          refine g_aload_n hX (pc := 24) dX2_beat_24 2 rfl ?_
          refine g_iload_n hX (pc := 25) dX2_beat_25 0 rfl ?_
          refine g_callS hX (pc := 26) kX2_more (mt_Net_more E l m M wkL fzL i hML (by omega) (hxa i (by omega)) (by omega)) q1132 [2, 3] rfl rfl rfl (Nat.le_of_ble_eq_true rfl) (Nat.le_of_ble_eq_true rfl) (Nat.le_of_ble_eq_true rfl) (by omega) (by omega) dX2_beat_26 (fun v w1 hp => ?_)
          obtain ⟨q19, fz120, w121, h22, h23, h24, rfl, rfl⟩ := hp
          refine g_nrm (cs1 := [w121, fz120, wm, [(n, ob 1 [.ref lm, .ref lb, .ref lr, .int (Prod.snd (toAll (mMore M) (mN M) B i)), .int nw])], wbL]) (st1 := [.ref q19, .ref n]) rfl rfl ?_
          have h25 := IsMach.mono h22 hML
          have h26 := BL.mono h22 hBL
          refine g_callV hX (pc := 29) kX2_send (mt_Net_send E l n lm lb lr nw (toAll (mMore M) (mN M) B i) wbL fz120 q19 (mMore M i) h26 h23 (hle)) q1096 fcX2 (sp_mem (i := 3) rfl) [3, 3, 1] rfl rfl rfl (Nat.le_of_ble_eq_true rfl) (Nat.le_of_ble_eq_true rfl) (Nat.le_of_ble_eq_true rfl) (by omega) (by omega) dX2_beat_29 (fun v w1 hp => ?_)
          obtain ⟨w127, h28, rfl, rfl⟩ := hp
          refine g_nrm (cs1 := [[(n, ob 1 [.ref lm, .ref lb, .ref lr, .int (Prod.snd (bSend (toAll (mMore M) (mN M) B i) (mMore M i))), .int nw])], w127, fz120, w121, wm]) (st1 := []) rfl rfl ?_
          have ht29 : toAll (mMore M) (mN M) B (i + 1) = bSend (toAll (mMore M) (mN M) B i) (mMore M i) := toAll_n d2
          refine g_cs (cs1 := [[(n, ob 1 [.ref lm, .ref lb, .ref lr, .int (Prod.snd (toAll (mMore M) (mN M) B (i + 1))), .int nw])], w127, fz120, w121, wm]) (by rw [ht29]) ?_
          have h30 : BL E fz120 lb (Prod.fst (toAll (mMore M) (mN M) B (i + 1))) w127 := by rw [ht29]; exact h28
          refine g_iinc hX (pc := 32) (v := nI (i + 1)) (lv1 := [(2, .int (nI (i + 1))), (0, .ref n), (1, .ref m)]) dX2_beat_32 0 rfl (nI_1 _) (by decide) rfl ?_
          refine g_goto hX (pc := 35) (tgt := 2) dX2_beat_35 rfl ?_
          refine g_pk [0, 3, 2, 0, 0] rfl ?_
          refine g_cs (cs1 := [[(n, ob 1 [.ref lm, .ref lb, .ref lr, .int (Prod.snd (toAll (mMore M) (mN M) B (i + 1))), .int nw])], wm, w121, w127, fz120]) rfl ?_
          refine g_widen (kc1 := 0 + 4 * (i + 1)) (ks1 := 0 + 82 * (i + 1)) (by omega) (by omega) ?_
          exact ih1 (i + 1) fz120 w121 w127 (by omega) (by omega) (Ext.tr hxL h22) h24 h30
  refine g_widen (kc1 := 0 + 4 * 0) (ks1 := 0 + 82 * 0) (by omega) (by omega) ?_
  exact lp1 ((List.length mas - 0) + 1) 0 fz wk wb (Nat.lt_succ_self _) (Nat.zero_le _) (Ext.rfl') hM (hB)

set_option maxHeartbeats 4000000 in
theorem mt_Net_sureIf (E : EE) (l : Launch) (n : Nat) (lm : Nat) (lb : Nat) (lr : Nat) (lo : Int32) (nw : Int32) (mas : List Nat) (wm : va_W) (m : Nat) (M : PM) (wk : va_W) (fz : va_W) (hA : AL E lm mas wm) (hsz : (List.length mas ≤ 5)) (hM : IsMach E fz m M wk) (hl : (lLast (mL M) ≤ 1000)) (hsu : (mSu M ≤ 1000)) (hkp : (∀ k, k < 5 → mKp M k ≤ 1000)) (hmn : (mN M < 5)) (hbs : (lB (mL M) ≤ mSu M)) : Mt E l yX2_sureIf cX2_sureIf 5 none 6 0 0 107 [.ref n, .ref m] [[(n, ob 1 [.ref lm, .ref lb, .ref lr, .int lo, .int nw])], wm, wk, fz] (fun (v_ : Option Value) (cs_ : List va_W) => ∃ (w1 : va_W), IsMach E fz m (mSure (List.length mas) M) w1 ∧ v_ = none ∧ cs_ = [[(n, ob 1 [.ref lm, .ref lb, .ref lr, .int lo, .int nw])], wm, w1, fz]) := by
  have hll : lLast (mL M) = lB (mL M) + (lE (mL M)).length := rfl
  refine Mt.of (by decide) (Nat.le_of_ble_eq_true rfl) (fun X hX hR hin => ?_)
  refine g_lv1 (lv1 := [(0, .ref n), (1, .ref m)]) rfl ?_
  obtain ⟨rn1, rk2, rl3, rs4, rst5, fn6, fk7, wl8, ws9, wst10, hn11, hL12, hV13, hS14, rfl⟩ := hM
  obtain ⟨la15, sp16, ges17, wl8, hE18, hges19, hsp20, rfl⟩ := hL12
  refine g_fl (cs1 := [[(n, ob 1 [.ref lm, .ref lb, .ref lr, .int lo, .int nw])], wm, [(m, ob 8 [.int (nI (mN M)), .ref rn1, .ref rk2, .ref rl3, .ref rs4, .ref rst5, .int (mR M), .int (mVt M), .int (nI (mSu M)), .int (nI (mDn M)), .int (bI (mLz M))])], [(rn1, iA (aC E 0) 5 fn6)], [(rk2, iA (aC E 0) 5 fk7)], [(rl3, ob 9 [.ref la15, .int (lT (mL M)), .int (lV (mL M)), .int (nI (lB (mL M))), .int (lBT (mL M)), .ref sp16])], wl8, ws9, wst10, fz]) (by simp only [List.flatten_cons, List.flatten_nil, List.cons_append, List.append_assoc, List.nil_append, List.append_nil]) ?_
  have hl_ges17 : List.length ges17 = List.length (lE (mL M)) := by rw [← hges19, List.length_map]
  refine g_aload_n hX (pc := 0) dX2_sureIf_0 1 rfl ?_
  refine g_getN hX (pc := 1) fcX9 2 rfl 3 (by decide) q933 rfl (v := .ref rl3) rfl dX2_sureIf_1 ?_
  refine g_callV hX (pc := 4) kX10_last (mt_Log_last E l rl3 la15 (lT (mL M)) (lV (mL M)) (lB (mL M)) (lBT (mL M)) sp16 fz ges17 wl8 hE18) q235 fcX10 (sp_mem (i := 5) rfl) [5, 5] rfl rfl rfl (Nat.le_of_ble_eq_true rfl) (Nat.le_of_ble_eq_true rfl) (Nat.le_of_ble_eq_true rfl) (by omega) (by omega) dX2_sureIf_4 (fun v w1 hp => ?_)
  obtain ⟨rfl, rfl⟩ := hp
  refine g_nrm (cs1 := [[(rl3, ob 9 [.ref la15, .int (lT (mL M)), .int (lV (mL M)), .int (nI (lB (mL M))), .int (lBT (mL M)), .ref sp16])], wl8, [(n, ob 1 [.ref lm, .ref lb, .ref lr, .int lo, .int nw])], wm, [(m, ob 8 [.int (nI (mN M)), .ref rn1, .ref rk2, .ref rl3, .ref rs4, .ref rst5, .int (mR M), .int (mVt M), .int (nI (mSu M)), .int (nI (mDn M)), .int (bI (mLz M))])], [(rn1, iA (aC E 0) 5 fn6)], [(rk2, iA (aC E 0) 5 fk7)], ws9, wst10, fz]) (st1 := [.int (nI ((lB (mL M)) + List.length ges17))]) rfl rfl ?_
  refine g_eqi (nI (lLast (mL M))) (by rw [hl_ges17]) ?_
  refine g_istore_n hX (pc := 7) (lv1 := [(2, .int (nI (lLast (mL M)))), (0, .ref n), (1, .ref m)]) dX2_sureIf_7 (by decide) rfl ?_
  have lp21 : ∀ (F1 : Nat) (j : Nat) (s : Nat), j < F1 → (j ≤ lLast (mL M)) → (s ≤ 1000) → ((s = mSu M ∧ sureGo (List.length mas) M j = (sureGo (List.length mas) M (lLast (mL M)))) ∨ (j ≤ s ∧ s = (sureGo (List.length mas) M (lLast (mL M))))) → G E l X [[(rl3, ob 9 [.ref la15, .int (lT (mL M)), .int (lV (mL M)), .int (nI (lB (mL M))), .int (lBT (mL M)), .ref sp16])], wl8, [(n, ob 1 [.ref lm, .ref lb, .ref lr, .int lo, .int nw])], wm, [(m, ob 8 [.int (nI (mN M)), .ref rn1, .ref rk2, .ref rl3, .ref rs4, .ref rst5, .int (mR M), .int (mVt M), .int (nI s), .int (nI (mDn M)), .int (bI (mLz M))])], [(rn1, iA (aC E 0) 5 fn6)], [(rk2, iA (aC E 0) 5 fk7)], ws9, wst10, fz] 0 0 8 [(0, .ref n), (1, .ref m), (2, .int (nI j))] [] := by
    intro F1
    induction F1 with
    | zero =>
      intro j s hF hj hs hG
      exact absurd hF (Nat.not_lt_zero _)
    | succ F1 ih1 =>
      intro j s hF hj hs hG
      refine g_iload_n hX (pc := 8) dX2_sureIf_8 2 rfl ?_
      refine g_aload_n hX (pc := 9) dX2_sureIf_9 1 rfl ?_
      refine g_getN hX (pc := 10) fcX9 4 rfl 8 (by decide) q945 rfl (v := .int (nI s)) rfl dX2_sureIf_10 ?_
      refine g_icmp_le hX (pc := 13) (tgt := 106) dX2_sureIf_13 rfl (fun c22 => ?_) (fun c22 => ?_)
      · have d1 : j ≤ s := (nI_leI (by omega) (by omega)).mp c22
        have hfin : s = (sureGo (List.length mas) M (lLast (mL M))) := by
          rcases hG with h | h
          · rw [← h.2, sureGo_z (by omega)]; exact h.1
          · exact h.2
        have ht23 : sureGo (List.length mas) M (lLast (mL M)) = s := hfin.symm
        refine g_cs (cs1 := [[(rl3, ob 9 [.ref la15, .int (lT (mL M)), .int (lV (mL M)), .int (nI (lB (mL M))), .int (lBT (mL M)), .ref sp16])], wl8, [(n, ob 1 [.ref lm, .ref lb, .ref lr, .int lo, .int nw])], wm, [(m, ob 8 [.int (nI (mN M)), .ref rn1, .ref rk2, .ref rl3, .ref rs4, .ref rst5, .int (mR M), .int (mVt M), .int (nI (sureGo (List.length mas) M (lLast (mL M)))), .int (nI (mDn M)), .int (bI (mLz M))])], [(rn1, iA (aC E 0) 5 fn6)], [(rk2, iA (aC E 0) 5 fk7)], ws9, wst10, fz]) (by rw [ht23]) ?_
        refine g_pk [4, 4, 4, 0, 0, 2, 2] rfl ?_
        refine g_cs (cs1 := [[(m, ob 8 [.int (nI (mN M)), .ref rn1, .ref rk2, .ref rl3, .ref rs4, .ref rst5, .int (mR M), .int (mVt M), .int (nI (sureGo (List.length mas) M (lLast (mL M)))), .int (nI (mDn M)), .int (bI (mLz M))])], [(rn1, iA (aC E 0) 5 fn6)], [(rk2, iA (aC E 0) 5 fk7)], [(rl3, ob 9 [.ref la15, .int (lT (mL M)), .int (lV (mL M)), .int (nI (lB (mL M))), .int (lBT (mL M)), .ref sp16])], wl8, ws9, wst10, [(n, ob 1 [.ref lm, .ref lb, .ref lr, .int lo, .int nw])], wm, fz]) rfl ?_
        refine g_fl (cs1 := [((m, ob 8 [.int (nI (mN M)), .ref rn1, .ref rk2, .ref rl3, .ref rs4, .ref rst5, .int (mR M), .int (mVt M), .int (nI (sureGo (List.length mas) M (lLast (mL M)))), .int (nI (mDn M)), .int (bI (mLz M))]) :: (rn1, iA (aC E 0) 5 fn6) :: (rk2, iA (aC E 0) 5 fk7) :: (((rl3, ob 9 [.ref la15, .int (lT (mL M)), .int (lV (mL M)), .int (nI (lB (mL M))), .int (lBT (mL M)), .ref sp16]) :: wl8) ++ (ws9 ++ wst10))), [(n, ob 1 [.ref lm, .ref lb, .ref lr, .int lo, .int nw])], wm, fz]) (by simp only [List.flatten_cons, List.flatten_nil, List.cons_append, List.append_assoc, List.nil_append, List.append_nil]) ?_
        have hM24 : IsMach E fz m (setSu M (sureGo (List.length mas) M (lLast (mL M)))) ((m, ob 8 [.int (nI (mN M)), .ref rn1, .ref rk2, .ref rl3, .ref rs4, .ref rst5, .int (mR M), .int (mVt M), .int (nI (sureGo (List.length mas) M (lLast (mL M)))), .int (nI (mDn M)), .int (bI (mLz M))]) :: (rn1, iA (aC E 0) 5 fn6) :: (rk2, iA (aC E 0) 5 fk7) :: (((rl3, ob 9 [.ref la15, .int (lT (mL M)), .int (lV (mL M)), .int (nI (lB (mL M))), .int (lBT (mL M)), .ref sp16]) :: wl8) ++ (ws9 ++ wst10))) := ⟨_, _, _, _, _, _, _, _, _, _, hn11, ⟨_, _, _, _, hE18, hges19, hsp20, rfl⟩, hV13, hS14, rfl⟩
        generalize ((m, ob 8 [.int (nI (mN M)), .ref rn1, .ref rk2, .ref rl3, .ref rs4, .ref rst5, .int (mR M), .int (mVt M), .int (nI (sureGo (List.length mas) M (lLast (mL M)))), .int (nI (mDn M)), .int (bI (mLz M))]) :: (rn1, iA (aC E 0) 5 fn6) :: (rk2, iA (aC E 0) 5 fk7) :: (((rl3, ob 9 [.ref la15, .int (lT (mL M)), .int (lV (mL M)), .int (nI (lB (mL M))), .int (lBT (mL M)), .ref sp16]) :: wl8) ++ (ws9 ++ wst10))) = wk25 at hM24 ⊢
        refine g_pk [1, 1, 0, 0] rfl ?_
        refine g_cs (cs1 := [[(n, ob 1 [.ref lm, .ref lb, .ref lr, .int lo, .int nw])], wm, wk25, fz]) rfl ?_
        refine g_vret hX (pc := 106) hR ?_ (by omega) (by omega) dX2_sureIf_106
        exact ⟨_, hM24, rfl, rfl⟩
      · have d1 : s < j := by
          have := mt (nI_leI (by omega) (by omega)).mpr c22
          omega
        obtain ⟨hs2, hG2⟩ : s = mSu M ∧ sureGo (List.length mas) M j = (sureGo (List.length mas) M (lLast (mL M))) := by
          rcases hG with h | h
          · exact h
          · omega
        refine g_iconst hX (pc := 16) (v := 1) dX2_sureIf_16 (by decide) ?_
        refine g_eqi (nI (kpUp M j 0)) (rfl) ?_
        refine g_istore_n hX (pc := 17) (lv1 := [(3, .int (nI (kpUp M j 0))), (0, .ref n), (1, .ref m), (2, .int (nI j))]) dX2_sureIf_17 (by decide) rfl ?_
        refine g_iconst hX (pc := 18) (v := 0) dX2_sureIf_18 (by decide) ?_
        refine g_eqi (nI 0) (nI_0.symm) ?_
        refine g_istore hX (pc := 19) (lv1 := [(4, .int (nI 0)), (3, .int (nI (kpUp M j 0))), (0, .ref n), (1, .ref m), (2, .int (nI j))]) dX2_sureIf_19 (by decide) rfl ?_
        have lp26 : ∀ (F2 : Nat) (i : Nat), List.length mas - i < F2 → (i ≤ List.length mas) → G E l X [[(rl3, ob 9 [.ref la15, .int (lT (mL M)), .int (lV (mL M)), .int (nI (lB (mL M))), .int (lBT (mL M)), .ref sp16])], wl8, [(n, ob 1 [.ref lm, .ref lb, .ref lr, .int lo, .int nw])], wm, [(m, ob 8 [.int (nI (mN M)), .ref rn1, .ref rk2, .ref rl3, .ref rs4, .ref rst5, .int (mR M), .int (mVt M), .int (nI s), .int (nI (mDn M)), .int (bI (mLz M))])], [(rn1, iA (aC E 0) 5 fn6)], [(rk2, iA (aC E 0) 5 fk7)], ws9, wst10, fz] 0 0 21 [(0, .ref n), (1, .ref m), (2, .int (nI j)), (3, .int (nI (kpUp M j i))), (4, .int (nI i))] [] := by
          intro F2
          induction F2 with
          | zero =>
            intro i hF hi
            exact absurd hF (Nat.not_lt_zero _)
          | succ F2 ih2 =>
            intro i hF hi
            refine g_iload hX (pc := 21) dX2_sureIf_21 4 rfl ?_
            refine g_aload_n hX (pc := 23) dX2_sureIf_23 0 rfl ?_
            refine g_get hX (pc := 24) fcX2 2 rfl 0 (by decide) q155 rfl (v := .ref lm) rfl dX2_sureIf_24 ?_
            obtain ⟨fs27, hm28⟩ := AL.head hA
            refine g_callF hX (pc := 27) kfJ2_size (mt_AL_size E l lm mas wm hA) q189 fcJ2 (sp_in 3 rfl hm28) [3] rfl rfl rfl (Nat.le_of_ble_eq_true rfl) (Nat.le_of_ble_eq_true rfl) (Nat.le_of_ble_eq_true rfl) (by omega) (by omega) dX2_sureIf_27 (fun v w1 hp => ?_)
            obtain ⟨rfl, rfl⟩ := hp
            refine g_nrm (cs1 := [wm, [(rl3, ob 9 [.ref la15, .int (lT (mL M)), .int (lV (mL M)), .int (nI (lB (mL M))), .int (lBT (mL M)), .ref sp16])], wl8, [(n, ob 1 [.ref lm, .ref lb, .ref lr, .int lo, .int nw])], [(m, ob 8 [.int (nI (mN M)), .ref rn1, .ref rk2, .ref rl3, .ref rs4, .ref rst5, .int (mR M), .int (mVt M), .int (nI s), .int (nI (mDn M)), .int (bI (mLz M))])], [(rn1, iA (aC E 0) 5 fn6)], [(rk2, iA (aC E 0) 5 fk7)], ws9, wst10, fz]) (st1 := [.int (nI (List.length mas)), .int (nI i)]) rfl rfl ?_
            refine g_icmp_ge hX (pc := 32) (tgt := 69) dX2_sureIf_32 rfl (fun c29 => ?_) (fun c29 => ?_)
            · have d2 : i = List.length mas := by
                have := (nI_leI (by omega) (by omega)).mp c29
                omega
              have hkl := kpUp_le M j (List.length mas)
              have ht30 : List.length mas = i := d2.symm
              refine g_lv1 (lv1 := [(0, .ref n), (1, .ref m), (2, .int (nI j)), (3, .int (nI (kpUp M j (List.length mas)))), (4, .int (nI (List.length mas)))]) (by rw [ht30]) ?_
              refine g_aload_n hX (pc := 69) dX2_sureIf_69 0 rfl ?_
              refine g_iload_n hX (pc := 70) dX2_sureIf_70 3 rfl ?_
              refine g_callV hX (pc := 71) kX2_areMost (mt_Net_areMost E l n lm lb lr lo nw mas wm (nI (kpUp M j (List.length mas))) hA) q1106 fcX2 (sp_mem (i := 3) rfl) [3, 0] rfl rfl rfl (Nat.le_of_ble_eq_true rfl) (Nat.le_of_ble_eq_true rfl) (Nat.le_of_ble_eq_true rfl) (by omega) (by omega) dX2_sureIf_71 (fun v w1 hp => ?_)
              obtain ⟨rfl, rfl⟩ := hp
              refine g_nrm (cs1 := [[(n, ob 1 [.ref lm, .ref lb, .ref lr, .int lo, .int nw])], wm, [(rl3, ob 9 [.ref la15, .int (lT (mL M)), .int (lV (mL M)), .int (nI (lB (mL M))), .int (lBT (mL M)), .ref sp16])], wl8, [(m, ob 8 [.int (nI (mN M)), .ref rn1, .ref rk2, .ref rl3, .ref rs4, .ref rst5, .int (mR M), .int (mVt M), .int (nI s), .int (nI (mDn M)), .int (bI (mLz M))])], [(rn1, iA (aC E 0) 5 fn6)], [(rk2, iA (aC E 0) 5 fk7)], ws9, wst10, fz]) (st1 := [.int (if nI (List.length mas) < 2 * (nI (kpUp M j (List.length mas))) then 1 else 0)]) rfl rfl ?_
              refine g_if_eq hX (pc := 74) (tgt := 100) dX2_sureIf_74 rfl (fun c31_ => ?_) (fun c31_ => ?_)
              · have c31 := z10.mp c31_
                have e5 : nI (List.length mas) < 2 * nI (kpUp M j (List.length mas)) ↔ List.length mas < 2 * kpUp M j (List.length mas) := by rw [nI_2]; exact nI_ltI (by omega) (by omega)
                refine g_iinc hX (pc := 100) (v := nI (j - 1)) (lv1 := [(2, .int (nI (j - 1))), (0, .ref n), (1, .ref m), (3, .int (nI (kpUp M j (List.length mas)))), (4, .int (nI (List.length mas)))]) dX2_sureIf_100 2 rfl (nI_m1 (by omega)) (by decide) rfl ?_
                refine g_goto hX (pc := 103) (tgt := 8) dX2_sureIf_103 rfl ?_
                refine g_pk [2, 2, 0, 0, 0, 0, 0, 0, 0, 0] rfl ?_
                refine g_cs (cs1 := [[(rl3, ob 9 [.ref la15, .int (lT (mL M)), .int (lV (mL M)), .int (nI (lB (mL M))), .int (lBT (mL M)), .ref sp16])], wl8, [(n, ob 1 [.ref lm, .ref lb, .ref lr, .int lo, .int nw])], wm, [(m, ob 8 [.int (nI (mN M)), .ref rn1, .ref rk2, .ref rl3, .ref rs4, .ref rst5, .int (mR M), .int (mVt M), .int (nI s), .int (nI (mDn M)), .int (bI (mLz M))])], [(rn1, iA (aC E 0) 5 fn6)], [(rk2, iA (aC E 0) 5 fk7)], ws9, wst10, fz]) rfl ?_
                refine g_lv (lv1 := [(0, .ref n), (1, .ref m), (2, .int (nI (j - 1)))]) [1, 2, 0] rfl ?_
                refine g_widen (kc1 := 0) (ks1 := 0) (by omega) (by omega) ?_
                exact ih1 (j - 1) s (by omega) (by omega) (hs) (Or.inl ⟨hs2, by rw [← hG2]; exact (sureGo_n (by omega) (fun z => c31 (e5.mpr z.1))).symm⟩)
              · have c31 := z10n.mp c31_
                have e5 : nI (List.length mas) < 2 * nI (kpUp M j (List.length mas)) ↔ List.length mas < 2 * kpUp M j (List.length mas) := by rw [nI_2]; exact nI_ltI (by omega) (by omega)
                refine g_aload_n hX (pc := 77) dX2_sureIf_77 1 rfl ?_
                refine g_getN hX (pc := 78) fcX9 4 rfl 3 (by decide) q933 rfl (v := .ref rl3) rfl dX2_sureIf_78 ?_
                refine g_iload_n hX (pc := 81) dX2_sureIf_81 2 rfl ?_
                obtain ⟨g32, hg33, ht34⟩ := tm_ex (L := (mL M)) (n := j) hges19 (by omega) (by omega)
                refine g_callV hX (pc := 82) kX10_termAt (mt_Log_termAt E l rl3 la15 (lT (mL M)) (lV (mL M)) (lB (mL M)) (lBT (mL M)) sp16 fz ges17 wl8 j g32 hE18 (hg33) (by omega) (by omega)) q1044 fcX10 (sp_mem (i := 2) rfl) [2, 2, 7] rfl rfl rfl (Nat.le_of_ble_eq_true rfl) (Nat.le_of_ble_eq_true rfl) (Nat.le_of_ble_eq_true rfl) (by omega) (by omega) dX2_sureIf_82 (fun v w1 hp => ?_)
                obtain ⟨rfl, rfl⟩ := hp
                refine g_nrm (cs1 := [[(rl3, ob 9 [.ref la15, .int (lT (mL M)), .int (lV (mL M)), .int (nI (lB (mL M))), .int (lBT (mL M)), .ref sp16])], wl8, fz, [(n, ob 1 [.ref lm, .ref lb, .ref lr, .int lo, .int nw])], wm, [(m, ob 8 [.int (nI (mN M)), .ref rn1, .ref rk2, .ref rl3, .ref rs4, .ref rst5, .int (mR M), .int (mVt M), .int (nI s), .int (nI (mDn M)), .int (bI (mLz M))])], [(rn1, iA (aC E 0) 5 fn6)], [(rk2, iA (aC E 0) 5 fk7)], ws9, wst10]) (st1 := [.int (if j = (lB (mL M)) then (lBT (mL M)) else g32.2.1)]) rfl rfl ?_
                refine g_eqi (lTmA (mL M) j) (ht34) ?_
                refine g_aload_n hX (pc := 85) dX2_sureIf_85 1 rfl ?_
                refine g_getN hX (pc := 86) fcX9 5 rfl 3 (by decide) q933 rfl (v := .ref rl3) rfl dX2_sureIf_86 ?_
                refine g_getN hX (pc := 89) fcX10 0 rfl 1 (by decide) q844 rfl (v := .int (lT (mL M))) rfl dX2_sureIf_89 ?_
                refine g_icmp_ne hX (pc := 92) (tgt := 100) dX2_sureIf_92 rfl (fun c35 => ?_) (fun c35 => ?_)
                · refine g_iinc hX (pc := 100) (v := nI (j - 1)) (lv1 := [(2, .int (nI (j - 1))), (0, .ref n), (1, .ref m), (3, .int (nI (kpUp M j (List.length mas)))), (4, .int (nI (List.length mas)))]) dX2_sureIf_100 2 rfl (nI_m1 (by omega)) (by decide) rfl ?_
                  refine g_goto hX (pc := 103) (tgt := 8) dX2_sureIf_103 rfl ?_
                  refine g_pk [0, 0, 1, 1, 1, 1, 1, 1, 1, 0] rfl ?_
                  refine g_cs (cs1 := [[(rl3, ob 9 [.ref la15, .int (lT (mL M)), .int (lV (mL M)), .int (nI (lB (mL M))), .int (lBT (mL M)), .ref sp16])], wl8, [(n, ob 1 [.ref lm, .ref lb, .ref lr, .int lo, .int nw])], wm, [(m, ob 8 [.int (nI (mN M)), .ref rn1, .ref rk2, .ref rl3, .ref rs4, .ref rst5, .int (mR M), .int (mVt M), .int (nI s), .int (nI (mDn M)), .int (bI (mLz M))])], [(rn1, iA (aC E 0) 5 fn6)], [(rk2, iA (aC E 0) 5 fk7)], ws9, wst10, fz]) rfl ?_
                  refine g_lv (lv1 := [(0, .ref n), (1, .ref m), (2, .int (nI (j - 1)))]) [1, 2, 0] rfl ?_
                  refine g_widen (kc1 := 0) (ks1 := 0) (by omega) (by omega) ?_
                  exact ih1 (j - 1) s (by omega) (by omega) (hs) (Or.inl ⟨hs2, by rw [← hG2]; exact (sureGo_n (by omega) (fun z => c35 z.2)).symm⟩)
                · refine g_aload_n hX (pc := 95) dX2_sureIf_95 1 rfl ?_
                  refine g_iload_n hX (pc := 96) dX2_sureIf_96 2 rfl ?_
                  refine g_putN hX (pc := 97) fcX9 5 (fs1 := [.int (nI (mN M)), .ref rn1, .ref rk2, .ref rl3, .ref rs4, .ref rst5, .int (mR M), .int (mVt M), .int (nI j), .int (nI (mDn M)), .int (bI (mLz M))]) (cs1 := [[(rl3, ob 9 [.ref la15, .int (lT (mL M)), .int (lV (mL M)), .int (nI (lB (mL M))), .int (lBT (mL M)), .ref sp16])], wl8, fz, [(n, ob 1 [.ref lm, .ref lb, .ref lr, .int lo, .int nw])], wm, [(m, ob 8 [.int (nI (mN M)), .ref rn1, .ref rk2, .ref rl3, .ref rs4, .ref rst5, .int (mR M), .int (mVt M), .int (nI j), .int (nI (mDn M)), .int (bI (mLz M))])], [(rn1, iA (aC E 0) 5 fn6)], [(rk2, iA (aC E 0) 5 fk7)], ws9, wst10]) rfl 8 (by decide) q945 rfl rfl rfl rfl (Nat.le_of_ble_eq_true rfl) rfl rfl dX2_sureIf_97 ?_
                  refine g_iinc hX (pc := 100) (v := nI (j - 1)) (lv1 := [(2, .int (nI (j - 1))), (0, .ref n), (1, .ref m), (3, .int (nI (kpUp M j (List.length mas)))), (4, .int (nI (List.length mas)))]) dX2_sureIf_100 2 rfl (nI_m1 (by omega)) (by decide) rfl ?_
                  refine g_goto hX (pc := 103) (tgt := 8) dX2_sureIf_103 rfl ?_
                  refine g_pk [0, 0, 1, 1, 1, 1, 1, 1, 1, 0] rfl ?_
                  refine g_cs (cs1 := [[(rl3, ob 9 [.ref la15, .int (lT (mL M)), .int (lV (mL M)), .int (nI (lB (mL M))), .int (lBT (mL M)), .ref sp16])], wl8, [(n, ob 1 [.ref lm, .ref lb, .ref lr, .int lo, .int nw])], wm, [(m, ob 8 [.int (nI (mN M)), .ref rn1, .ref rk2, .ref rl3, .ref rs4, .ref rst5, .int (mR M), .int (mVt M), .int (nI j), .int (nI (mDn M)), .int (bI (mLz M))])], [(rn1, iA (aC E 0) 5 fn6)], [(rk2, iA (aC E 0) 5 fk7)], ws9, wst10, fz]) rfl ?_
                  refine g_lv (lv1 := [(0, .ref n), (1, .ref m), (2, .int (nI (j - 1)))]) [1, 2, 0] rfl ?_
                  refine g_widen (kc1 := 0) (ks1 := 0) (by omega) (by omega) ?_
                  exact ih1 (j - 1) j (by omega) (by omega) (by omega) (Or.inr ⟨by omega, (sureGo_p (by omega) (e5.mp c31) c35).symm.trans hG2⟩)
            · have d2 : i < List.length mas := by
                have := mt (nI_leI (by omega) (by omega)).mpr c29
                omega
              refine g_iload_n hX (pc := 35) dX2_sureIf_35 3 rfl ?_
              refine g_iload hX (pc := 36) dX2_sureIf_36 4 rfl ?_
              refine g_aload_n hX (pc := 38) dX2_sureIf_38 1 rfl ?_
              refine g_getN hX (pc := 39) fcX9 4 rfl 0 (by decide) q926 rfl (v := .int (nI (mN M))) rfl dX2_sureIf_39 ?_
              refine g_val (v := if (nI i) = (nI (mN M)) then 0 else (if (fk7 i) < (nI j) then 0 else 1)) (pcJ := 61) (st1 := [.int (nI (kpUp M j i))]) (fun hj36 => ?_) ?_
              · refine g_icmp_eq hX (pc := 42) (tgt := 60) dX2_sureIf_42 rfl (fun c37 => ?_) (fun c37 => ?_)
                · refine g_iconst hX (pc := 60) (v := 0) dX2_sureIf_60 (by decide) ?_
                  exact hj36 _ (by rw [if_pos c37])
                · refine g_aload_n hX (pc := 45) dX2_sureIf_45 1 rfl ?_
                  refine g_getN hX (pc := 46) fcX9 4 rfl 2 (by decide) q930 rfl (v := .ref rk2) rfl dX2_sureIf_46 ?_
                  refine g_iload hX (pc := 49) dX2_sureIf_49 4 rfl ?_
                  refine g_iald hX (pc := 51) (sp_mem (i := 6) rfl) (v := fk7 i) (vp_in_nI (by omega) (by omega)) (by rw [nI_clamp (by omega)]) dX2_sureIf_51 ?_
                  refine g_iload_n hX (pc := 52) dX2_sureIf_52 2 rfl ?_
                  refine g_icmp_lt hX (pc := 53) (tgt := 60) dX2_sureIf_53 rfl (fun c38 => ?_) (fun c38 => ?_)
                  · refine g_iconst hX (pc := 60) (v := 0) dX2_sureIf_60 (by decide) ?_
                    exact hj36 _ (by rw [if_neg c37, if_pos c38])
                  · refine g_iconst hX (pc := 56) (v := 1) dX2_sureIf_56 (by decide) ?_
                    refine g_goto hX (pc := 57) (tgt := 61) dX2_sureIf_57 rfl ?_
                    exact hj36 _ (by rw [if_neg c37, if_neg c38])
              refine g_iadd hX (pc := 61) dX2_sureIf_61 ?_
              refine g_eqi (nI (kpUp M j (i + 1))) (kp_s ((hn11 i (by omega)).2) (by omega) (by omega) (by have := hkp i (by omega); omega) (by omega)) ?_
              refine g_istore_n hX (pc := 62) (lv1 := [(3, .int (nI (kpUp M j (i + 1)))), (0, .ref n), (1, .ref m), (2, .int (nI j)), (4, .int (nI i))]) dX2_sureIf_62 (by decide) rfl ?_
              refine g_iinc hX (pc := 63) (v := nI (i + 1)) (lv1 := [(4, .int (nI (i + 1))), (3, .int (nI (kpUp M j (i + 1)))), (0, .ref n), (1, .ref m), (2, .int (nI j))]) dX2_sureIf_63 4 rfl (nI_1 _) (by decide) rfl ?_
              refine g_goto hX (pc := 66) (tgt := 21) dX2_sureIf_66 rfl ?_
              refine g_pk [1, 1, 1, 0, 0, 0, 0, 0, 0, 0] rfl ?_
              refine g_cs (cs1 := [[(rl3, ob 9 [.ref la15, .int (lT (mL M)), .int (lV (mL M)), .int (nI (lB (mL M))), .int (lBT (mL M)), .ref sp16])], wl8, [(n, ob 1 [.ref lm, .ref lb, .ref lr, .int lo, .int nw])], wm, [(m, ob 8 [.int (nI (mN M)), .ref rn1, .ref rk2, .ref rl3, .ref rs4, .ref rst5, .int (mR M), .int (mVt M), .int (nI s), .int (nI (mDn M)), .int (bI (mLz M))])], [(rn1, iA (aC E 0) 5 fn6)], [(rk2, iA (aC E 0) 5 fk7)], ws9, wst10, fz]) rfl ?_
              refine g_lv (lv1 := [(0, .ref n), (1, .ref m), (2, .int (nI j)), (3, .int (nI (kpUp M j (i + 1)))), (4, .int (nI (i + 1)))]) [2, 3, 4, 1, 0] rfl ?_
              refine g_widen (kc1 := 0) (ks1 := 0) (by omega) (by omega) ?_
              exact ih2 (i + 1) (by omega) (by omega)
        refine g_lv (lv1 := [(0, .ref n), (1, .ref m), (2, .int (nI j)), (3, .int (nI (kpUp M j 0))), (4, .int (nI 0))]) [2, 3, 4, 1, 0] rfl ?_
        refine g_widen (kc1 := 0) (ks1 := 0) (by omega) (by omega) ?_
        exact lp26 ((List.length mas - 0) + 1) 0 (Nat.lt_succ_self _) (Nat.zero_le _)
  refine g_lv (lv1 := [(0, .ref n), (1, .ref m), (2, .int (nI (lLast (mL M))))]) [1, 2, 0] rfl ?_
  refine g_widen (kc1 := 0) (ks1 := 0) (by omega) (by omega) ?_
  exact lp21 ((lLast (mL M)) + 1) (lLast (mL M)) (mSu M) (Nat.lt_succ_self _) (Nat.le_refl _) (hsu) (Or.inl ⟨rfl, rfl⟩)

set_option maxHeartbeats 4000000 in
theorem mt_Net_leadIf (E : EE) (l : Launch) (n : Nat) (lm : Nat) (lb : Nat) (lr : Nat) (nw : Int32) (mas : List Nat) (wm : va_W) (m : Nat) (M : PM) (wk : va_W) (fz : va_W) (B : PB) (wb : va_W) (hA : AL E lm mas wm) (hsz : (List.length mas ≤ 5)) (hM : IsMach E fz m M wk) (hB : BL E fz lb (Prod.fst B) wb) (hl : (lLast (mL M) ≤ 55)) (hmn : (mN M < 5)) (hn : (List.length (Prod.fst B) ≤ 30)) : Mt E l yX2_leadIf cX2_leadIf 4 none 9 (ldC (List.length mas) (mVt M)) (ldS (List.length mas) (mVt M)) 214 [.ref n, .ref m] [[(n, ob 1 [.ref lm, .ref lb, .ref lr, .int (Prod.snd B), .int nw])], wm, wk, wb, fz] (fun (v_ : Option Value) (cs_ : List va_W) => ∃ (fz1 : va_W) (w1 : va_W) (w2 : va_W), Ext E fz fz1 ∧ IsMach E fz1 m (Prod.fst (leadIf (List.length mas) M B)) w1 ∧ BL E fz1 lb (Prod.fst (Prod.snd (leadIf (List.length mas) M B))) w2 ∧ v_ = none ∧ cs_ = [[(n, ob 1 [.ref lm, .ref lb, .ref lr, .int (Prod.snd (Prod.snd (leadIf (List.length mas) M B))), .int nw])], w1, wm, w2, fz1]) := by
  have hll : lLast (mL M) = lB (mL M) + (lE (mL M)).length := rfl
  refine Mt.of (by decide) (Nat.le_of_ble_eq_true rfl) (fun X hX hR hin => ?_)
  refine g_lv1 (lv1 := [(0, .ref n), (1, .ref m)]) rfl ?_
  refine g_iconst hX (pc := 0) (v := 0) dX2_leadIf_0 (by decide) ?_
  refine g_eqi (vtUp (mVt M) 0) (rfl) ?_
  refine g_istore_n hX (pc := 1) (lv1 := [(2, .int (vtUp (mVt M) 0)), (0, .ref n), (1, .ref m)]) dX2_leadIf_1 (by decide) rfl ?_
  refine g_iconst hX (pc := 2) (v := 0) dX2_leadIf_2 (by decide) ?_
  refine g_eqi (nI 0) (nI_0.symm) ?_
  refine g_istore_n hX (pc := 3) (lv1 := [(3, .int (nI 0)), (2, .int (vtUp (mVt M) 0)), (0, .ref n), (1, .ref m)]) dX2_leadIf_3 (by decide) rfl ?_
  have lp1 : ∀ (F1 : Nat) (i : Nat), List.length mas - i < F1 → (i ≤ List.length mas) → G E l X [[(n, ob 1 [.ref lm, .ref lb, .ref lr, .int (Prod.snd B), .int nw])], wm, wk, wb, fz] 0 0 4 [(0, .ref n), (1, .ref m), (2, .int (vtUp (mVt M) i)), (3, .int (nI i))] [] := by
    intro F1
    induction F1 with
    | zero =>
      intro i hF hi
      exact absurd hF (Nat.not_lt_zero _)
    | succ F1 ih1 =>
      intro i hF hi
      refine g_iload_n hX (pc := 4) dX2_leadIf_4 3 rfl ?_
      refine g_aload_n hX (pc := 5) dX2_leadIf_5 0 rfl ?_
      refine g_get hX (pc := 6) fcX2 0 rfl 0 (by decide) q155 rfl (v := .ref lm) rfl dX2_leadIf_6 ?_
      obtain ⟨fs2, hm3⟩ := AL.head hA
      refine g_callF hX (pc := 9) kfJ2_size (mt_AL_size E l lm mas wm hA) q189 fcJ2 (sp_in 1 rfl hm3) [1] rfl rfl rfl (Nat.le_of_ble_eq_true rfl) (Nat.le_of_ble_eq_true rfl) (Nat.le_of_ble_eq_true rfl) (by omega) (by omega) dX2_leadIf_9 (fun v w1 hp => ?_)
      obtain ⟨rfl, rfl⟩ := hp
      refine g_nrm (cs1 := [wm, [(n, ob 1 [.ref lm, .ref lb, .ref lr, .int (Prod.snd B), .int nw])], wk, wb, fz]) (st1 := [.int (nI (List.length mas)), .int (nI i)]) rfl rfl ?_
      refine g_icmp_ge hX (pc := 14) (tgt := 34) dX2_leadIf_14 rfl (fun c4 => ?_) (fun c4 => ?_)
      · have d1 : i = List.length mas := by
          have := (nI_leI (by omega) (by omega)).mp c4
          omega
        have ht5 : List.length mas = i := d1.symm
        refine g_lv1 (lv1 := [(0, .ref n), (1, .ref m), (2, .int (vtUp (mVt M) (List.length mas))), (3, .int (nI (List.length mas)))]) (by rw [ht5]) ?_
        refine g_aload_n hX (pc := 34) dX2_leadIf_34 0 rfl ?_
        refine g_iload_n hX (pc := 35) dX2_leadIf_35 2 rfl ?_
        refine g_callV hX (pc := 36) kX2_areMost (mt_Net_areMost E l n lm lb lr (Prod.snd B) nw mas wm (vtUp (mVt M) (List.length mas)) hA) q1106 fcX2 (sp_mem (i := 1) rfl) [1, 0] rfl rfl rfl (Nat.le_of_ble_eq_true rfl) (Nat.le_of_ble_eq_true rfl) (Nat.le_of_ble_eq_true rfl) (by omega) (by omega) dX2_leadIf_36 (fun v w1 hp => ?_)
        obtain ⟨rfl, rfl⟩ := hp
        refine g_nrm (cs1 := [[(n, ob 1 [.ref lm, .ref lb, .ref lr, .int (Prod.snd B), .int nw])], wm, wk, wb, fz]) (st1 := [.int (if nI (List.length mas) < 2 * (vtUp (mVt M) (List.length mas)) then 1 else 0)]) rfl rfl ?_
        refine g_if_ne hX (pc := 39) (tgt := 43) dX2_leadIf_39 rfl (fun c6_ => ?_) (fun c6_ => ?_)
        · have c6 := z10n.mp c6_
          have hli : (leadIf (List.length mas) M B) = (mLead M, beatAll (List.length mas) (mLead M) B) := if_pos c6
          have hlc : ldC (List.length mas) (mVt M) = 2 + 4 * List.length mas := if_pos c6
          have hls : ldS (List.length mas) (mVt M) = 132 + 82 * List.length mas := if_pos c6
          obtain ⟨rn7, rk8, rl9, rs10, rst11, fn12, fk13, wl14, ws15, wst16, hn17, hL18, hV19, hS20, rfl⟩ := hM
          obtain ⟨la21, sp22, ges23, wl14, hE24, hges25, hsp26, rfl⟩ := hL18
          refine g_fl (cs1 := [[(n, ob 1 [.ref lm, .ref lb, .ref lr, .int (Prod.snd B), .int nw])], wm, [(m, ob 8 [.int (nI (mN M)), .ref rn7, .ref rk8, .ref rl9, .ref rs10, .ref rst11, .int (mR M), .int (mVt M), .int (nI (mSu M)), .int (nI (mDn M)), .int (bI (mLz M))])], [(rn7, iA (aC E 0) 5 fn12)], [(rk8, iA (aC E 0) 5 fk13)], [(rl9, ob 9 [.ref la21, .int (lT (mL M)), .int (lV (mL M)), .int (nI (lB (mL M))), .int (lBT (mL M)), .ref sp22])], wl14, ws15, wst16, wb, fz]) (by simp only [List.flatten_cons, List.flatten_nil, List.cons_append, List.append_assoc, List.nil_append, List.append_nil]) ?_
          have hl_ges23 : List.length ges23 = List.length (lE (mL M)) := by rw [← hges25, List.length_map]
          refine g_aload_n hX (pc := 43) dX2_leadIf_43 1 rfl ?_
          refine g_iconst hX (pc := 44) (v := 3) dX2_leadIf_44 (by decide) ?_
          refine g_putN hX (pc := 45) fcX9 2 (fs1 := [.int (nI (mN M)), .ref rn7, .ref rk8, .ref rl9, .ref rs10, .ref rst11, .int 3, .int (mVt M), .int (nI (mSu M)), .int (nI (mDn M)), .int (bI (mLz M))]) (cs1 := [[(n, ob 1 [.ref lm, .ref lb, .ref lr, .int (Prod.snd B), .int nw])], wm, [(m, ob 8 [.int (nI (mN M)), .ref rn7, .ref rk8, .ref rl9, .ref rs10, .ref rst11, .int 3, .int (mVt M), .int (nI (mSu M)), .int (nI (mDn M)), .int (bI (mLz M))])], [(rn7, iA (aC E 0) 5 fn12)], [(rk8, iA (aC E 0) 5 fk13)], [(rl9, ob 9 [.ref la21, .int (lT (mL M)), .int (lV (mL M)), .int (nI (lB (mL M))), .int (lBT (mL M)), .ref sp22])], wl14, ws15, wst16, wb, fz]) rfl 6 (by decide) q941 rfl rfl rfl rfl (Nat.le_of_ble_eq_true rfl) rfl rfl dX2_leadIf_45 ?_
          refine g_aload_n hX (pc := 48) dX2_leadIf_48 1 rfl ?_
          refine g_getN hX (pc := 49) fcX9 2 rfl 3 (by decide) q933 rfl (v := .ref rl9) rfl dX2_leadIf_49 ?_
          refine g_getN hX (pc := 52) fcX10 5 rfl 0 (by decide) q840 rfl (v := .ref la21) rfl dX2_leadIf_52 ?_
          refine g_new hX (pc := 55) fcX14 q1110 q1111 q101 (fs := [.int 0, .int 0]) (fun j hj => by match j, hj with | 0, _ => rfl | 1, _ => rfl | j + 2, h => exact absurd h (by omega)) (by omega) (by omega) dX2_leadIf_55 (fun q27 => ?_)
          refine g_dup hX (pc := 58) dX2_leadIf_58 rfl ?_
          refine g_aload_n hX (pc := 59) dX2_leadIf_59 1 rfl ?_
          refine g_getN hX (pc := 60) fcX9 3 rfl 3 (by decide) q933 rfl (v := .ref rl9) rfl dX2_leadIf_60 ?_
          refine g_getN hX (pc := 63) fcX10 6 rfl 1 (by decide) q844 rfl (v := .int (lT (mL M))) rfl dX2_leadIf_63 ?_
          refine g_iconst hX (pc := 66) (v := (-1)) dX2_leadIf_66 (by decide) ?_
          refine g_callI hX (pc := 67) kX14_init (mt_Entry_init E l q27 (lT (mL M)) (-1)) q1112 [0] rfl rfl rfl (Nat.le_of_ble_eq_true rfl) (Nat.le_of_ble_eq_true rfl) (Nat.le_of_ble_eq_true rfl) (by omega) (by omega) dX2_leadIf_67 (fun v w1 hp => ?_)
          obtain ⟨rfl, rfl⟩ := hp
          refine g_nrm (cs1 := [[(q27, ob 12 [.int (lT (mL M)), .int (-1)])], [(n, ob 1 [.ref lm, .ref lb, .ref lr, .int (Prod.snd B), .int nw])], wm, [(m, ob 8 [.int (nI (mN M)), .ref rn7, .ref rk8, .ref rl9, .ref rs10, .ref rst11, .int 3, .int (mVt M), .int (nI (mSu M)), .int (nI (mDn M)), .int (bI (mLz M))])], [(rn7, iA (aC E 0) 5 fn12)], [(rk8, iA (aC E 0) 5 fk13)], [(rl9, ob 9 [.ref la21, .int (lT (mL M)), .int (lV (mL M)), .int (nI (lB (mL M))), .int (lBT (mL M)), .ref sp22])], wl14, ws15, wst16, wb, fz]) (st1 := [.ref q27, .ref la21]) rfl rfl ?_
          refine g_pk [0, 10] rfl ?_
          refine g_cs (cs1 := [[(q27, ob 12 [.int (lT (mL M)), .int (-1)])], fz, [(n, ob 1 [.ref lm, .ref lb, .ref lr, .int (Prod.snd B), .int nw])], wm, [(m, ob 8 [.int (nI (mN M)), .ref rn7, .ref rk8, .ref rl9, .ref rs10, .ref rst11, .int 3, .int (mVt M), .int (nI (mSu M)), .int (nI (mDn M)), .int (bI (mLz M))])], [(rn7, iA (aC E 0) 5 fn12)], [(rk8, iA (aC E 0) 5 fk13)], [(rl9, ob 9 [.ref la21, .int (lT (mL M)), .int (lV (mL M)), .int (nI (lB (mL M))), .int (lBT (mL M)), .ref sp22])], wl14, ws15, wst16, wb]) rfl ?_
          refine g_fl (cs1 := [((q27, ob 12 [.int (lT (mL M)), .int (-1)]) :: (fz)), [(n, ob 1 [.ref lm, .ref lb, .ref lr, .int (Prod.snd B), .int nw])], wm, [(m, ob 8 [.int (nI (mN M)), .ref rn7, .ref rk8, .ref rl9, .ref rs10, .ref rst11, .int 3, .int (mVt M), .int (nI (mSu M)), .int (nI (mDn M)), .int (bI (mLz M))])], [(rn7, iA (aC E 0) 5 fn12)], [(rk8, iA (aC E 0) 5 fk13)], [(rl9, ob 9 [.ref la21, .int (lT (mL M)), .int (lV (mL M)), .int (nI (lB (mL M))), .int (lBT (mL M)), .ref sp22])], wl14, ws15, wst16, wb]) (by simp only [List.flatten_cons, List.flatten_nil, List.cons_append, List.append_assoc, List.nil_append, List.append_nil]) ?_
          have hx29 : Ext E fz ((q27, ob 12 [.int (lT (mL M)), .int (-1)]) :: (fz)) := fun q hq => (List.mem_cons_of_mem _ hq)
          have hm30 : (q27, ob 12 [.int (lT (mL M)), .int (-1)]) ∈ ((q27, ob 12 [.int (lT (mL M)), .int (-1)]) :: (fz)) := (List.mem_cons_self)
          generalize ((q27, ob 12 [.int (lT (mL M)), .int (-1)]) :: (fz)) = fz28 at hx29 hm30 ⊢
          have h31 := BL.mono hx29 hB
          have h32 := EL.mono hx29 hE24
          have h33 := StIn.mono hx29 hsp26
          have h34 := IsLog.mono hx29 hV19
          have hxe : okE E fz28 q27 := Or.inl ⟨12, _, hm30, by omega⟩
          have hxl : (List.map Prod.fst ges23).length ≤ 60 := by rw [List.length_map]; omega
          obtain ⟨fs35, hm36⟩ := AL.head hE24.1
          refine g_callF hX (pc := 70) kfJ2_add_2 (mt_AL_add E l la21 (List.map Prod.fst ges23) wl14 q27 fz28 60 hE24.1 (hxl) (by omega) (hxe) (en_ok h32.2)) q976 fcJ2 (sp_in 7 rfl hm36) [7, 0] rfl rfl rfl (Nat.le_of_ble_eq_true rfl) (Nat.le_of_ble_eq_true rfl) (Nat.le_of_ble_eq_true rfl) (by omega) (by omega) dX2_leadIf_70 (fun v w1 hp => ?_)
          obtain ⟨w137, h38, rfl, rfl⟩ := hp
          refine g_nrm (cs1 := [w137, fz28, [(n, ob 1 [.ref lm, .ref lb, .ref lr, .int (Prod.snd B), .int nw])], wm, [(m, ob 8 [.int (nI (mN M)), .ref rn7, .ref rk8, .ref rl9, .ref rs10, .ref rst11, .int 3, .int (mVt M), .int (nI (mSu M)), .int (nI (mDn M)), .int (bI (mLz M))])], [(rn7, iA (aC E 0) 5 fn12)], [(rk8, iA (aC E 0) 5 fk13)], [(rl9, ob 9 [.ref la21, .int (lT (mL M)), .int (lV (mL M)), .int (nI (lB (mL M))), .int (lBT (mL M)), .ref sp22])], ws15, wst16, wb]) (st1 := [.int 1]) rfl rfl ?_
          have hE39 : EL E fz28 la21 (ges23 ++ [en2 q27 (lT (mL M)) (-1)]) w137 := el_add h32 hm30 h38
          have hla40 : List.length (ges23 ++ [en2 q27 (lT (mL M)) (-1)]) = List.length (lE (mL M)) + 1 := by rw [List.length_append, List.length_singleton, hl_ges23]
          refine g_pop hX (pc := 75) dX2_leadIf_75 rfl ?_
          refine g_iconst hX (pc := 76) (v := 0) dX2_leadIf_76 (by decide) ?_
          refine g_istore_n hX (pc := 77) (lv1 := [(3, .int 0), (0, .ref n), (1, .ref m), (2, .int (vtUp (mVt M) (List.length mas)))]) dX2_leadIf_77 (by decide) rfl ?_
          refine g_iload_n hX (pc := 78) dX2_leadIf_78 0 rfl ?_
          refine g_iconst hX (pc := 79) (v := 5) dX2_leadIf_79 (by decide) ?_
          refine g_icmp_ge hX (pc := 80) (tgt := 109) dX2_leadIf_80 rfl (fun c41 => ?_) (fun c41 => ?_)
          · exact absurd c41 (by decide)
          · refine g_aload_n hX (pc := 83) dX2_leadIf_83 2 rfl ?_
            refine g_getN hX (pc := 84) fcX9 4 rfl 1 (by decide) q928 rfl (v := .ref rn7) rfl dX2_leadIf_84 ?_
            refine g_iload_n hX (pc := 87) dX2_leadIf_87 0 rfl ?_
            refine g_aload_n hX (pc := 88) dX2_leadIf_88 2 rfl ?_
            refine g_getN hX (pc := 89) fcX9 4 rfl 3 (by decide) q933 rfl (v := .ref rl9) rfl dX2_leadIf_89 ?_
            refine g_callV hX (pc := 92) kX10_last (mt_Log_last E l rl9 la21 (lT (mL M)) (lV (mL M)) (lB (mL M)) (lBT (mL M)) sp22 fz28 (ges23 ++ [en2 q27 (lT (mL M)) (-1)]) w137 hE39) q235 fcX10 (sp_mem (i := 7) rfl) [7, 0] rfl rfl rfl (Nat.le_of_ble_eq_true rfl) (Nat.le_of_ble_eq_true rfl) (Nat.le_of_ble_eq_true rfl) (by omega) (by omega) dX2_leadIf_92 (fun v w1 hp => ?_)
            obtain ⟨rfl, rfl⟩ := hp
            refine g_nrm (cs1 := [[(rl9, ob 9 [.ref la21, .int (lT (mL M)), .int (lV (mL M)), .int (nI (lB (mL M))), .int (lBT (mL M)), .ref sp22])], w137, fz28, [(n, ob 1 [.ref lm, .ref lb, .ref lr, .int (Prod.snd B), .int nw])], wm, [(m, ob 8 [.int (nI (mN M)), .ref rn7, .ref rk8, .ref rl9, .ref rs10, .ref rst11, .int 3, .int (mVt M), .int (nI (mSu M)), .int (nI (mDn M)), .int (bI (mLz M))])], [(rn7, iA (aC E 0) 5 fn12)], [(rk8, iA (aC E 0) 5 fk13)], ws15, wst16, wb]) (st1 := [.int (nI ((lB (mL M)) + List.length (ges23 ++ [en2 q27 (lT (mL M)) (-1)]))), .int 0, .ref rn7]) rfl rfl ?_
            refine g_eqi (nI (lLast (mL M) + 1)) (by rw [hla40]; rfl) ?_
            refine g_iast hX (pc := 95) (f1 := (upd fn12 0 (nI (lLast (mL M) + 1)))) (cs1 := [[(rl9, ob 9 [.ref la21, .int (lT (mL M)), .int (lV (mL M)), .int (nI (lB (mL M))), .int (lBT (mL M)), .ref sp22])], w137, fz28, [(n, ob 1 [.ref lm, .ref lb, .ref lr, .int (Prod.snd B), .int nw])], wm, [(m, ob 8 [.int (nI (mN M)), .ref rn7, .ref rk8, .ref rl9, .ref rs10, .ref rst11, .int 3, .int (mVt M), .int (nI (mSu M)), .int (nI (mDn M)), .int (bI (mLz M))])], [(rn7, iA (aC E 0) 5 (upd fn12 0 (nI (lLast (mL M) + 1))))], [(rk8, iA (aC E 0) 5 fk13)], ws15, wst16, wb]) 6 rfl (by unfold vp_in; decide) rfl rfl dX2_leadIf_95 ?_
            refine g_aload_n hX (pc := 96) dX2_leadIf_96 2 rfl ?_
            refine g_getN hX (pc := 97) fcX9 5 rfl 2 (by decide) q930 rfl (v := .ref rk8) rfl dX2_leadIf_97 ?_
            refine g_iload_n hX (pc := 100) dX2_leadIf_100 0 rfl ?_
            refine g_iconst hX (pc := 101) (v := 0) dX2_leadIf_101 (by decide) ?_
            refine g_iast hX (pc := 102) (f1 := (upd fk13 0 0)) (cs1 := [[(rl9, ob 9 [.ref la21, .int (lT (mL M)), .int (lV (mL M)), .int (nI (lB (mL M))), .int (lBT (mL M)), .ref sp22])], w137, fz28, [(n, ob 1 [.ref lm, .ref lb, .ref lr, .int (Prod.snd B), .int nw])], wm, [(m, ob 8 [.int (nI (mN M)), .ref rn7, .ref rk8, .ref rl9, .ref rs10, .ref rst11, .int 3, .int (mVt M), .int (nI (mSu M)), .int (nI (mDn M)), .int (bI (mLz M))])], [(rn7, iA (aC E 0) 5 (upd fn12 0 (nI (lLast (mL M) + 1))))], [(rk8, iA (aC E 0) 5 (upd fk13 0 0))], ws15, wst16, wb]) 7 rfl (by unfold vp_in; decide) rfl rfl dX2_leadIf_102 ?_
            refine g_iinc hX (pc := 103) (v := 1) (lv1 := [(3, .int 1), (0, .ref n), (1, .ref m), (2, .int (vtUp (mVt M) (List.length mas)))]) dX2_leadIf_103 0 rfl (by decide) (by decide) rfl ?_
            refine g_goto hX (pc := 106) (tgt := 78) dX2_leadIf_106 rfl ?_
            refine g_iload_n hX (pc := 78) dX2_leadIf_78 0 rfl ?_
            refine g_iconst hX (pc := 79) (v := 5) dX2_leadIf_79 (by decide) ?_
            refine g_icmp_ge hX (pc := 80) (tgt := 109) dX2_leadIf_80 rfl (fun c42 => ?_) (fun c42 => ?_)
            · exact absurd c42 (by decide)
            · refine g_aload_n hX (pc := 83) dX2_leadIf_83 2 rfl ?_
              refine g_getN hX (pc := 84) fcX9 5 rfl 1 (by decide) q928 rfl (v := .ref rn7) rfl dX2_leadIf_84 ?_
              refine g_iload_n hX (pc := 87) dX2_leadIf_87 0 rfl ?_
              refine g_aload_n hX (pc := 88) dX2_leadIf_88 2 rfl ?_
              refine g_getN hX (pc := 89) fcX9 5 rfl 3 (by decide) q933 rfl (v := .ref rl9) rfl dX2_leadIf_89 ?_
              refine g_callV hX (pc := 92) kX10_last (mt_Log_last E l rl9 la21 (lT (mL M)) (lV (mL M)) (lB (mL M)) (lBT (mL M)) sp22 fz28 (ges23 ++ [en2 q27 (lT (mL M)) (-1)]) w137 hE39) q235 fcX10 (sp_mem (i := 0) rfl) [0, 0] rfl rfl rfl (Nat.le_of_ble_eq_true rfl) (Nat.le_of_ble_eq_true rfl) (Nat.le_of_ble_eq_true rfl) (by omega) (by omega) dX2_leadIf_92 (fun v w1 hp => ?_)
              obtain ⟨rfl, rfl⟩ := hp
              refine g_nrm (cs1 := [[(rl9, ob 9 [.ref la21, .int (lT (mL M)), .int (lV (mL M)), .int (nI (lB (mL M))), .int (lBT (mL M)), .ref sp22])], w137, fz28, [(n, ob 1 [.ref lm, .ref lb, .ref lr, .int (Prod.snd B), .int nw])], wm, [(m, ob 8 [.int (nI (mN M)), .ref rn7, .ref rk8, .ref rl9, .ref rs10, .ref rst11, .int 3, .int (mVt M), .int (nI (mSu M)), .int (nI (mDn M)), .int (bI (mLz M))])], [(rn7, iA (aC E 0) 5 (upd fn12 0 (nI (lLast (mL M) + 1))))], [(rk8, iA (aC E 0) 5 (upd fk13 0 0))], ws15, wst16, wb]) (st1 := [.int (nI ((lB (mL M)) + List.length (ges23 ++ [en2 q27 (lT (mL M)) (-1)]))), .int 1, .ref rn7]) rfl rfl ?_
              refine g_eqi (nI (lLast (mL M) + 1)) (by rw [hla40]; rfl) ?_
              refine g_iast hX (pc := 95) (f1 := (upd (upd fn12 0 (nI (lLast (mL M) + 1))) 1 (nI (lLast (mL M) + 1)))) (cs1 := [[(rl9, ob 9 [.ref la21, .int (lT (mL M)), .int (lV (mL M)), .int (nI (lB (mL M))), .int (lBT (mL M)), .ref sp22])], w137, fz28, [(n, ob 1 [.ref lm, .ref lb, .ref lr, .int (Prod.snd B), .int nw])], wm, [(m, ob 8 [.int (nI (mN M)), .ref rn7, .ref rk8, .ref rl9, .ref rs10, .ref rst11, .int 3, .int (mVt M), .int (nI (mSu M)), .int (nI (mDn M)), .int (bI (mLz M))])], [(rn7, iA (aC E 0) 5 (upd (upd fn12 0 (nI (lLast (mL M) + 1))) 1 (nI (lLast (mL M) + 1))))], [(rk8, iA (aC E 0) 5 (upd fk13 0 0))], ws15, wst16, wb]) 6 rfl (by unfold vp_in; decide) rfl rfl dX2_leadIf_95 ?_
              refine g_aload_n hX (pc := 96) dX2_leadIf_96 2 rfl ?_
              refine g_getN hX (pc := 97) fcX9 5 rfl 2 (by decide) q930 rfl (v := .ref rk8) rfl dX2_leadIf_97 ?_
              refine g_iload_n hX (pc := 100) dX2_leadIf_100 0 rfl ?_
              refine g_iconst hX (pc := 101) (v := 0) dX2_leadIf_101 (by decide) ?_
              refine g_iast hX (pc := 102) (f1 := (upd (upd fk13 0 0) 1 0)) (cs1 := [[(rl9, ob 9 [.ref la21, .int (lT (mL M)), .int (lV (mL M)), .int (nI (lB (mL M))), .int (lBT (mL M)), .ref sp22])], w137, fz28, [(n, ob 1 [.ref lm, .ref lb, .ref lr, .int (Prod.snd B), .int nw])], wm, [(m, ob 8 [.int (nI (mN M)), .ref rn7, .ref rk8, .ref rl9, .ref rs10, .ref rst11, .int 3, .int (mVt M), .int (nI (mSu M)), .int (nI (mDn M)), .int (bI (mLz M))])], [(rn7, iA (aC E 0) 5 (upd (upd fn12 0 (nI (lLast (mL M) + 1))) 1 (nI (lLast (mL M) + 1))))], [(rk8, iA (aC E 0) 5 (upd (upd fk13 0 0) 1 0))], ws15, wst16, wb]) 7 rfl (by unfold vp_in; decide) rfl rfl dX2_leadIf_102 ?_
              refine g_iinc hX (pc := 103) (v := 2) (lv1 := [(3, .int 2), (0, .ref n), (1, .ref m), (2, .int (vtUp (mVt M) (List.length mas)))]) dX2_leadIf_103 0 rfl (by decide) (by decide) rfl ?_
              refine g_goto hX (pc := 106) (tgt := 78) dX2_leadIf_106 rfl ?_
              refine g_iload_n hX (pc := 78) dX2_leadIf_78 0 rfl ?_
              refine g_iconst hX (pc := 79) (v := 5) dX2_leadIf_79 (by decide) ?_
              refine g_icmp_ge hX (pc := 80) (tgt := 109) dX2_leadIf_80 rfl (fun c43 => ?_) (fun c43 => ?_)
              · exact absurd c43 (by decide)
              · refine g_aload_n hX (pc := 83) dX2_leadIf_83 2 rfl ?_
                refine g_getN hX (pc := 84) fcX9 5 rfl 1 (by decide) q928 rfl (v := .ref rn7) rfl dX2_leadIf_84 ?_
                refine g_iload_n hX (pc := 87) dX2_leadIf_87 0 rfl ?_
                refine g_aload_n hX (pc := 88) dX2_leadIf_88 2 rfl ?_
                refine g_getN hX (pc := 89) fcX9 5 rfl 3 (by decide) q933 rfl (v := .ref rl9) rfl dX2_leadIf_89 ?_
                refine g_callV hX (pc := 92) kX10_last (mt_Log_last E l rl9 la21 (lT (mL M)) (lV (mL M)) (lB (mL M)) (lBT (mL M)) sp22 fz28 (ges23 ++ [en2 q27 (lT (mL M)) (-1)]) w137 hE39) q235 fcX10 (sp_mem (i := 0) rfl) [0, 0] rfl rfl rfl (Nat.le_of_ble_eq_true rfl) (Nat.le_of_ble_eq_true rfl) (Nat.le_of_ble_eq_true rfl) (by omega) (by omega) dX2_leadIf_92 (fun v w1 hp => ?_)
                obtain ⟨rfl, rfl⟩ := hp
                refine g_nrm (cs1 := [[(rl9, ob 9 [.ref la21, .int (lT (mL M)), .int (lV (mL M)), .int (nI (lB (mL M))), .int (lBT (mL M)), .ref sp22])], w137, fz28, [(n, ob 1 [.ref lm, .ref lb, .ref lr, .int (Prod.snd B), .int nw])], wm, [(m, ob 8 [.int (nI (mN M)), .ref rn7, .ref rk8, .ref rl9, .ref rs10, .ref rst11, .int 3, .int (mVt M), .int (nI (mSu M)), .int (nI (mDn M)), .int (bI (mLz M))])], [(rn7, iA (aC E 0) 5 (upd (upd fn12 0 (nI (lLast (mL M) + 1))) 1 (nI (lLast (mL M) + 1))))], [(rk8, iA (aC E 0) 5 (upd (upd fk13 0 0) 1 0))], ws15, wst16, wb]) (st1 := [.int (nI ((lB (mL M)) + List.length (ges23 ++ [en2 q27 (lT (mL M)) (-1)]))), .int 2, .ref rn7]) rfl rfl ?_
                refine g_eqi (nI (lLast (mL M) + 1)) (by rw [hla40]; rfl) ?_
                refine g_iast hX (pc := 95) (f1 := (upd (upd (upd fn12 0 (nI (lLast (mL M) + 1))) 1 (nI (lLast (mL M) + 1))) 2 (nI (lLast (mL M) + 1)))) (cs1 := [[(rl9, ob 9 [.ref la21, .int (lT (mL M)), .int (lV (mL M)), .int (nI (lB (mL M))), .int (lBT (mL M)), .ref sp22])], w137, fz28, [(n, ob 1 [.ref lm, .ref lb, .ref lr, .int (Prod.snd B), .int nw])], wm, [(m, ob 8 [.int (nI (mN M)), .ref rn7, .ref rk8, .ref rl9, .ref rs10, .ref rst11, .int 3, .int (mVt M), .int (nI (mSu M)), .int (nI (mDn M)), .int (bI (mLz M))])], [(rn7, iA (aC E 0) 5 (upd (upd (upd fn12 0 (nI (lLast (mL M) + 1))) 1 (nI (lLast (mL M) + 1))) 2 (nI (lLast (mL M) + 1))))], [(rk8, iA (aC E 0) 5 (upd (upd fk13 0 0) 1 0))], ws15, wst16, wb]) 6 rfl (by unfold vp_in; decide) rfl rfl dX2_leadIf_95 ?_
                refine g_aload_n hX (pc := 96) dX2_leadIf_96 2 rfl ?_
                refine g_getN hX (pc := 97) fcX9 5 rfl 2 (by decide) q930 rfl (v := .ref rk8) rfl dX2_leadIf_97 ?_
                refine g_iload_n hX (pc := 100) dX2_leadIf_100 0 rfl ?_
                refine g_iconst hX (pc := 101) (v := 0) dX2_leadIf_101 (by decide) ?_
                refine g_iast hX (pc := 102) (f1 := (upd (upd (upd fk13 0 0) 1 0) 2 0)) (cs1 := [[(rl9, ob 9 [.ref la21, .int (lT (mL M)), .int (lV (mL M)), .int (nI (lB (mL M))), .int (lBT (mL M)), .ref sp22])], w137, fz28, [(n, ob 1 [.ref lm, .ref lb, .ref lr, .int (Prod.snd B), .int nw])], wm, [(m, ob 8 [.int (nI (mN M)), .ref rn7, .ref rk8, .ref rl9, .ref rs10, .ref rst11, .int 3, .int (mVt M), .int (nI (mSu M)), .int (nI (mDn M)), .int (bI (mLz M))])], [(rn7, iA (aC E 0) 5 (upd (upd (upd fn12 0 (nI (lLast (mL M) + 1))) 1 (nI (lLast (mL M) + 1))) 2 (nI (lLast (mL M) + 1))))], [(rk8, iA (aC E 0) 5 (upd (upd (upd fk13 0 0) 1 0) 2 0))], ws15, wst16, wb]) 7 rfl (by unfold vp_in; decide) rfl rfl dX2_leadIf_102 ?_
                refine g_iinc hX (pc := 103) (v := 3) (lv1 := [(3, .int 3), (0, .ref n), (1, .ref m), (2, .int (vtUp (mVt M) (List.length mas)))]) dX2_leadIf_103 0 rfl (by decide) (by decide) rfl ?_
                refine g_goto hX (pc := 106) (tgt := 78) dX2_leadIf_106 rfl ?_
                refine g_iload_n hX (pc := 78) dX2_leadIf_78 0 rfl ?_
                refine g_iconst hX (pc := 79) (v := 5) dX2_leadIf_79 (by decide) ?_
                refine g_icmp_ge hX (pc := 80) (tgt := 109) dX2_leadIf_80 rfl (fun c44 => ?_) (fun c44 => ?_)
                · exact absurd c44 (by decide)
                · refine g_aload_n hX (pc := 83) dX2_leadIf_83 2 rfl ?_
                  refine g_getN hX (pc := 84) fcX9 5 rfl 1 (by decide) q928 rfl (v := .ref rn7) rfl dX2_leadIf_84 ?_
                  refine g_iload_n hX (pc := 87) dX2_leadIf_87 0 rfl ?_
                  refine g_aload_n hX (pc := 88) dX2_leadIf_88 2 rfl ?_
                  refine g_getN hX (pc := 89) fcX9 5 rfl 3 (by decide) q933 rfl (v := .ref rl9) rfl dX2_leadIf_89 ?_
                  refine g_callV hX (pc := 92) kX10_last (mt_Log_last E l rl9 la21 (lT (mL M)) (lV (mL M)) (lB (mL M)) (lBT (mL M)) sp22 fz28 (ges23 ++ [en2 q27 (lT (mL M)) (-1)]) w137 hE39) q235 fcX10 (sp_mem (i := 0) rfl) [0, 0] rfl rfl rfl (Nat.le_of_ble_eq_true rfl) (Nat.le_of_ble_eq_true rfl) (Nat.le_of_ble_eq_true rfl) (by omega) (by omega) dX2_leadIf_92 (fun v w1 hp => ?_)
                  obtain ⟨rfl, rfl⟩ := hp
                  refine g_nrm (cs1 := [[(rl9, ob 9 [.ref la21, .int (lT (mL M)), .int (lV (mL M)), .int (nI (lB (mL M))), .int (lBT (mL M)), .ref sp22])], w137, fz28, [(n, ob 1 [.ref lm, .ref lb, .ref lr, .int (Prod.snd B), .int nw])], wm, [(m, ob 8 [.int (nI (mN M)), .ref rn7, .ref rk8, .ref rl9, .ref rs10, .ref rst11, .int 3, .int (mVt M), .int (nI (mSu M)), .int (nI (mDn M)), .int (bI (mLz M))])], [(rn7, iA (aC E 0) 5 (upd (upd (upd fn12 0 (nI (lLast (mL M) + 1))) 1 (nI (lLast (mL M) + 1))) 2 (nI (lLast (mL M) + 1))))], [(rk8, iA (aC E 0) 5 (upd (upd (upd fk13 0 0) 1 0) 2 0))], ws15, wst16, wb]) (st1 := [.int (nI ((lB (mL M)) + List.length (ges23 ++ [en2 q27 (lT (mL M)) (-1)]))), .int 3, .ref rn7]) rfl rfl ?_
                  refine g_eqi (nI (lLast (mL M) + 1)) (by rw [hla40]; rfl) ?_
                  refine g_iast hX (pc := 95) (f1 := (upd (upd (upd (upd fn12 0 (nI (lLast (mL M) + 1))) 1 (nI (lLast (mL M) + 1))) 2 (nI (lLast (mL M) + 1))) 3 (nI (lLast (mL M) + 1)))) (cs1 := [[(rl9, ob 9 [.ref la21, .int (lT (mL M)), .int (lV (mL M)), .int (nI (lB (mL M))), .int (lBT (mL M)), .ref sp22])], w137, fz28, [(n, ob 1 [.ref lm, .ref lb, .ref lr, .int (Prod.snd B), .int nw])], wm, [(m, ob 8 [.int (nI (mN M)), .ref rn7, .ref rk8, .ref rl9, .ref rs10, .ref rst11, .int 3, .int (mVt M), .int (nI (mSu M)), .int (nI (mDn M)), .int (bI (mLz M))])], [(rn7, iA (aC E 0) 5 (upd (upd (upd (upd fn12 0 (nI (lLast (mL M) + 1))) 1 (nI (lLast (mL M) + 1))) 2 (nI (lLast (mL M) + 1))) 3 (nI (lLast (mL M) + 1))))], [(rk8, iA (aC E 0) 5 (upd (upd (upd fk13 0 0) 1 0) 2 0))], ws15, wst16, wb]) 6 rfl (by unfold vp_in; decide) rfl rfl dX2_leadIf_95 ?_
                  refine g_aload_n hX (pc := 96) dX2_leadIf_96 2 rfl ?_
                  refine g_getN hX (pc := 97) fcX9 5 rfl 2 (by decide) q930 rfl (v := .ref rk8) rfl dX2_leadIf_97 ?_
                  refine g_iload_n hX (pc := 100) dX2_leadIf_100 0 rfl ?_
                  refine g_iconst hX (pc := 101) (v := 0) dX2_leadIf_101 (by decide) ?_
                  refine g_iast hX (pc := 102) (f1 := (upd (upd (upd (upd fk13 0 0) 1 0) 2 0) 3 0)) (cs1 := [[(rl9, ob 9 [.ref la21, .int (lT (mL M)), .int (lV (mL M)), .int (nI (lB (mL M))), .int (lBT (mL M)), .ref sp22])], w137, fz28, [(n, ob 1 [.ref lm, .ref lb, .ref lr, .int (Prod.snd B), .int nw])], wm, [(m, ob 8 [.int (nI (mN M)), .ref rn7, .ref rk8, .ref rl9, .ref rs10, .ref rst11, .int 3, .int (mVt M), .int (nI (mSu M)), .int (nI (mDn M)), .int (bI (mLz M))])], [(rn7, iA (aC E 0) 5 (upd (upd (upd (upd fn12 0 (nI (lLast (mL M) + 1))) 1 (nI (lLast (mL M) + 1))) 2 (nI (lLast (mL M) + 1))) 3 (nI (lLast (mL M) + 1))))], [(rk8, iA (aC E 0) 5 (upd (upd (upd (upd fk13 0 0) 1 0) 2 0) 3 0))], ws15, wst16, wb]) 7 rfl (by unfold vp_in; decide) rfl rfl dX2_leadIf_102 ?_
                  refine g_iinc hX (pc := 103) (v := 4) (lv1 := [(3, .int 4), (0, .ref n), (1, .ref m), (2, .int (vtUp (mVt M) (List.length mas)))]) dX2_leadIf_103 0 rfl (by decide) (by decide) rfl ?_
                  refine g_goto hX (pc := 106) (tgt := 78) dX2_leadIf_106 rfl ?_
                  refine g_iload_n hX (pc := 78) dX2_leadIf_78 0 rfl ?_
                  refine g_iconst hX (pc := 79) (v := 5) dX2_leadIf_79 (by decide) ?_
                  refine g_icmp_ge hX (pc := 80) (tgt := 109) dX2_leadIf_80 rfl (fun c45 => ?_) (fun c45 => ?_)
                  · exact absurd c45 (by decide)
                  · refine g_aload_n hX (pc := 83) dX2_leadIf_83 2 rfl ?_
                    refine g_getN hX (pc := 84) fcX9 5 rfl 1 (by decide) q928 rfl (v := .ref rn7) rfl dX2_leadIf_84 ?_
                    refine g_iload_n hX (pc := 87) dX2_leadIf_87 0 rfl ?_
                    refine g_aload_n hX (pc := 88) dX2_leadIf_88 2 rfl ?_
                    refine g_getN hX (pc := 89) fcX9 5 rfl 3 (by decide) q933 rfl (v := .ref rl9) rfl dX2_leadIf_89 ?_
                    refine g_callV hX (pc := 92) kX10_last (mt_Log_last E l rl9 la21 (lT (mL M)) (lV (mL M)) (lB (mL M)) (lBT (mL M)) sp22 fz28 (ges23 ++ [en2 q27 (lT (mL M)) (-1)]) w137 hE39) q235 fcX10 (sp_mem (i := 0) rfl) [0, 0] rfl rfl rfl (Nat.le_of_ble_eq_true rfl) (Nat.le_of_ble_eq_true rfl) (Nat.le_of_ble_eq_true rfl) (by omega) (by omega) dX2_leadIf_92 (fun v w1 hp => ?_)
                    obtain ⟨rfl, rfl⟩ := hp
                    refine g_nrm (cs1 := [[(rl9, ob 9 [.ref la21, .int (lT (mL M)), .int (lV (mL M)), .int (nI (lB (mL M))), .int (lBT (mL M)), .ref sp22])], w137, fz28, [(n, ob 1 [.ref lm, .ref lb, .ref lr, .int (Prod.snd B), .int nw])], wm, [(m, ob 8 [.int (nI (mN M)), .ref rn7, .ref rk8, .ref rl9, .ref rs10, .ref rst11, .int 3, .int (mVt M), .int (nI (mSu M)), .int (nI (mDn M)), .int (bI (mLz M))])], [(rn7, iA (aC E 0) 5 (upd (upd (upd (upd fn12 0 (nI (lLast (mL M) + 1))) 1 (nI (lLast (mL M) + 1))) 2 (nI (lLast (mL M) + 1))) 3 (nI (lLast (mL M) + 1))))], [(rk8, iA (aC E 0) 5 (upd (upd (upd (upd fk13 0 0) 1 0) 2 0) 3 0))], ws15, wst16, wb]) (st1 := [.int (nI ((lB (mL M)) + List.length (ges23 ++ [en2 q27 (lT (mL M)) (-1)]))), .int 4, .ref rn7]) rfl rfl ?_
                    refine g_eqi (nI (lLast (mL M) + 1)) (by rw [hla40]; rfl) ?_
                    refine g_iast hX (pc := 95) (f1 := (upd (upd (upd (upd (upd fn12 0 (nI (lLast (mL M) + 1))) 1 (nI (lLast (mL M) + 1))) 2 (nI (lLast (mL M) + 1))) 3 (nI (lLast (mL M) + 1))) 4 (nI (lLast (mL M) + 1)))) (cs1 := [[(rl9, ob 9 [.ref la21, .int (lT (mL M)), .int (lV (mL M)), .int (nI (lB (mL M))), .int (lBT (mL M)), .ref sp22])], w137, fz28, [(n, ob 1 [.ref lm, .ref lb, .ref lr, .int (Prod.snd B), .int nw])], wm, [(m, ob 8 [.int (nI (mN M)), .ref rn7, .ref rk8, .ref rl9, .ref rs10, .ref rst11, .int 3, .int (mVt M), .int (nI (mSu M)), .int (nI (mDn M)), .int (bI (mLz M))])], [(rn7, iA (aC E 0) 5 (upd (upd (upd (upd (upd fn12 0 (nI (lLast (mL M) + 1))) 1 (nI (lLast (mL M) + 1))) 2 (nI (lLast (mL M) + 1))) 3 (nI (lLast (mL M) + 1))) 4 (nI (lLast (mL M) + 1))))], [(rk8, iA (aC E 0) 5 (upd (upd (upd (upd fk13 0 0) 1 0) 2 0) 3 0))], ws15, wst16, wb]) 6 rfl (by unfold vp_in; decide) rfl rfl dX2_leadIf_95 ?_
                    refine g_aload_n hX (pc := 96) dX2_leadIf_96 2 rfl ?_
                    refine g_getN hX (pc := 97) fcX9 5 rfl 2 (by decide) q930 rfl (v := .ref rk8) rfl dX2_leadIf_97 ?_
                    refine g_iload_n hX (pc := 100) dX2_leadIf_100 0 rfl ?_
                    refine g_iconst hX (pc := 101) (v := 0) dX2_leadIf_101 (by decide) ?_
                    refine g_iast hX (pc := 102) (f1 := (upd (upd (upd (upd (upd fk13 0 0) 1 0) 2 0) 3 0) 4 0)) (cs1 := [[(rl9, ob 9 [.ref la21, .int (lT (mL M)), .int (lV (mL M)), .int (nI (lB (mL M))), .int (lBT (mL M)), .ref sp22])], w137, fz28, [(n, ob 1 [.ref lm, .ref lb, .ref lr, .int (Prod.snd B), .int nw])], wm, [(m, ob 8 [.int (nI (mN M)), .ref rn7, .ref rk8, .ref rl9, .ref rs10, .ref rst11, .int 3, .int (mVt M), .int (nI (mSu M)), .int (nI (mDn M)), .int (bI (mLz M))])], [(rn7, iA (aC E 0) 5 (upd (upd (upd (upd (upd fn12 0 (nI (lLast (mL M) + 1))) 1 (nI (lLast (mL M) + 1))) 2 (nI (lLast (mL M) + 1))) 3 (nI (lLast (mL M) + 1))) 4 (nI (lLast (mL M) + 1))))], [(rk8, iA (aC E 0) 5 (upd (upd (upd (upd (upd fk13 0 0) 1 0) 2 0) 3 0) 4 0))], ws15, wst16, wb]) 7 rfl (by unfold vp_in; decide) rfl rfl dX2_leadIf_102 ?_
                    refine g_iinc hX (pc := 103) (v := 5) (lv1 := [(3, .int 5), (0, .ref n), (1, .ref m), (2, .int (vtUp (mVt M) (List.length mas)))]) dX2_leadIf_103 0 rfl (by decide) (by decide) rfl ?_
                    refine g_goto hX (pc := 106) (tgt := 78) dX2_leadIf_106 rfl ?_
                    refine g_iload_n hX (pc := 78) dX2_leadIf_78 0 rfl ?_
                    refine g_iconst hX (pc := 79) (v := 5) dX2_leadIf_79 (by decide) ?_
                    refine g_icmp_ge hX (pc := 80) (tgt := 109) dX2_leadIf_80 rfl (fun c46 => ?_) (fun c46 => ?_)
                    · have hn2 : ∀ k, k < 5 → (upd (upd (upd (upd (upd fn12 0 (nI (lLast (mL M) + 1))) 1 (nI (lLast (mL M) + 1))) 2 (nI (lLast (mL M) + 1))) 3 (nI (lLast (mL M) + 1))) 4 (nI (lLast (mL M) + 1))) k = nI (lLast (mL M) + 1) ∧ (upd (upd (upd (upd (upd fk13 0 0) 1 0) 2 0) 3 0) 4 0) k = nI 0 := by
                        intro k hk
                        rcases (show k = 0 ∨ k = 1 ∨ k = 2 ∨ k = 3 ∨ k = 4 by omega) with rfl | rfl | rfl | rfl | rfl <;> exact ⟨by simp [upd], by simp [upd, nI_0]⟩
                      refine g_pk [5, 5, 5, 0, 0, 3, 3] rfl ?_
                      refine g_cs (cs1 := [[(m, ob 8 [.int (nI (mN M)), .ref rn7, .ref rk8, .ref rl9, .ref rs10, .ref rst11, .int 3, .int (mVt M), .int (nI (mSu M)), .int (nI (mDn M)), .int (bI (mLz M))])], [(rn7, iA (aC E 0) 5 (upd (upd (upd (upd (upd fn12 0 (nI (lLast (mL M) + 1))) 1 (nI (lLast (mL M) + 1))) 2 (nI (lLast (mL M) + 1))) 3 (nI (lLast (mL M) + 1))) 4 (nI (lLast (mL M) + 1))))], [(rk8, iA (aC E 0) 5 (upd (upd (upd (upd (upd fk13 0 0) 1 0) 2 0) 3 0) 4 0))], [(rl9, ob 9 [.ref la21, .int (lT (mL M)), .int (lV (mL M)), .int (nI (lB (mL M))), .int (lBT (mL M)), .ref sp22])], w137, ws15, wst16, fz28, [(n, ob 1 [.ref lm, .ref lb, .ref lr, .int (Prod.snd B), .int nw])], wm, wb]) rfl ?_
                      refine g_fl (cs1 := [((m, ob 8 [.int (nI (mN M)), .ref rn7, .ref rk8, .ref rl9, .ref rs10, .ref rst11, .int 3, .int (mVt M), .int (nI (mSu M)), .int (nI (mDn M)), .int (bI (mLz M))]) :: (rn7, iA (aC E 0) 5 (upd (upd (upd (upd (upd fn12 0 (nI (lLast (mL M) + 1))) 1 (nI (lLast (mL M) + 1))) 2 (nI (lLast (mL M) + 1))) 3 (nI (lLast (mL M) + 1))) 4 (nI (lLast (mL M) + 1)))) :: (rk8, iA (aC E 0) 5 (upd (upd (upd (upd (upd fk13 0 0) 1 0) 2 0) 3 0) 4 0)) :: (((rl9, ob 9 [.ref la21, .int (lT (mL M)), .int (lV (mL M)), .int (nI (lB (mL M))), .int (lBT (mL M)), .ref sp22]) :: w137) ++ (ws15 ++ wst16))), fz28, [(n, ob 1 [.ref lm, .ref lb, .ref lr, .int (Prod.snd B), .int nw])], wm, wb]) (by simp only [List.flatten_cons, List.flatten_nil, List.cons_append, List.append_assoc, List.nil_append, List.append_nil]) ?_
                      have hM47 : IsMach E fz28 m (mLead M) ((m, ob 8 [.int (nI (mN M)), .ref rn7, .ref rk8, .ref rl9, .ref rs10, .ref rst11, .int 3, .int (mVt M), .int (nI (mSu M)), .int (nI (mDn M)), .int (bI (mLz M))]) :: (rn7, iA (aC E 0) 5 (upd (upd (upd (upd (upd fn12 0 (nI (lLast (mL M) + 1))) 1 (nI (lLast (mL M) + 1))) 2 (nI (lLast (mL M) + 1))) 3 (nI (lLast (mL M) + 1))) 4 (nI (lLast (mL M) + 1)))) :: (rk8, iA (aC E 0) 5 (upd (upd (upd (upd (upd fk13 0 0) 1 0) 2 0) 3 0) 4 0)) :: (((rl9, ob 9 [.ref la21, .int (lT (mL M)), .int (lV (mL M)), .int (nI (lB (mL M))), .int (lBT (mL M)), .ref sp22]) :: w137) ++ (ws15 ++ wst16))) := ⟨_, _, _, _, _, _, _, _, _, _, hn2, ⟨_, _, _, _, hE39, (by rw [List.map_append, hges25]; rfl), h33, rfl⟩, h34, hS20, rfl⟩
                      generalize ((m, ob 8 [.int (nI (mN M)), .ref rn7, .ref rk8, .ref rl9, .ref rs10, .ref rst11, .int 3, .int (mVt M), .int (nI (mSu M)), .int (nI (mDn M)), .int (bI (mLz M))]) :: (rn7, iA (aC E 0) 5 (upd (upd (upd (upd (upd fn12 0 (nI (lLast (mL M) + 1))) 1 (nI (lLast (mL M) + 1))) 2 (nI (lLast (mL M) + 1))) 3 (nI (lLast (mL M) + 1))) 4 (nI (lLast (mL M) + 1)))) :: (rk8, iA (aC E 0) 5 (upd (upd (upd (upd (upd fk13 0 0) 1 0) 2 0) 3 0) 4 0)) :: (((rl9, ob 9 [.ref la21, .int (lT (mL M)), .int (lV (mL M)), .int (nI (lB (mL M))), .int (lBT (mL M)), .ref sp22]) :: w137) ++ (ws15 ++ wst16))) = wk48 at hM47 ⊢
                      have hld : lLast (mL (mLead M)) ≤ 1000 := by
                        show lB (mL M) + (lE (mL M) ++ [_]).length ≤ 1000
                        rw [List.length_append, List.length_singleton]; omega
                      refine g_aload_n hX (pc := 109) dX2_leadIf_109 1 rfl ?_
                      refine g_aload_n hX (pc := 110) dX2_leadIf_110 2 rfl ?_
                      refine g_callV hX (pc := 111) kX2_beat (mt_Net_beat E l n lm lb lr nw mas wm m (mLead M) wk48 fz28 B wb hA (by omega) hM47 h31 (fun k hk => ⟨by show 1 ≤ lLast (mL M) + 1; omega, by show lLast (mL M) + 1 ≤ 1000; omega⟩) (hld) (hmn) (by omega)) q1128 fcX2 (sp_mem (i := 2) rfl) [2, 2, 0, 1, 0] rfl rfl rfl (Nat.le_of_ble_eq_true rfl) (Nat.le_of_ble_eq_true rfl) (Nat.le_of_ble_eq_true rfl) (by omega) (by omega) dX2_leadIf_111 (fun v w1 hp => ?_)
                      obtain ⟨fz149, w150, w251, h52, h53, h54, rfl, rfl⟩ := hp
                      refine g_nrm (cs1 := [[(n, ob 1 [.ref lm, .ref lb, .ref lr, .int (Prod.snd (toAll (mMore (mLead M)) (mN (mLead M)) B (List.length mas))), .int nw])], w150, wm, w251, fz149]) (st1 := []) rfl rfl ?_
                      have h55 := BL.mono h52 h31
                      have h56 := StIn.mono h52 h33
                      have h57 := IsMach.mono h52 hM47
                      refine g_vret hX (pc := 114) hR ?_ (by omega) (by omega) dX2_leadIf_114
                      rw [hli]
                      exact ⟨_, _, _, (Ext.tr hx29 h52), h53, h54, rfl, rfl⟩
                    · exact absurd c46 (by decide)
        · have c6 := z10.mp c6_
          have hli : (leadIf (List.length mas) M B) = (M, B) := if_neg c6
          have hlc : ldC (List.length mas) (mVt M) = 0 := if_neg c6
          have hls : ldS (List.length mas) (mVt M) = 0 := if_neg c6
          refine g_pk [0, 1, 0, 0, 0] rfl ?_
          refine g_cs (cs1 := [[(n, ob 1 [.ref lm, .ref lb, .ref lr, .int (Prod.snd B), .int nw])], wk, wm, wb, fz]) rfl ?_
          refine g_vret hX (pc := 42) hR ?_ (by omega) (by omega) dX2_leadIf_42
          rw [hli]
          exact ⟨_, _, _, Ext.rfl', hM, hB, rfl, rfl⟩
      · have d1 : i < List.length mas := by
          have := mt (nI_leI (by omega) (by omega)).mpr c4
          omega
        refine g_iload_n hX (pc := 17) dX2_leadIf_17 2 rfl ?_
        obtain ⟨rn58, rk59, rl60, rs61, rst62, la63, sp64, hpk65, hpl66⟩ := hM.peek
        refine g_aload_n hX (pc := 18) dX2_leadIf_18 1 rfl ?_
        refine g_getNm hX (pc := 19) fcX9 (sp_in 2 rfl hpk65) 7 (by decide) q943 rfl (v := .int (mVt M)) rfl dX2_leadIf_19 ?_
        refine g_iload_n hX (pc := 22) dX2_leadIf_22 3 rfl ?_
        refine g_ishr hX (pc := 23) dX2_leadIf_23 ?_
        refine g_iconst hX (pc := 24) (v := 1) dX2_leadIf_24 (by decide) ?_
        refine g_iand hX (pc := 25) dX2_leadIf_25 ?_
        refine g_iadd hX (pc := 26) dX2_leadIf_26 ?_
        refine g_eqi (vtUp (mVt M) (i + 1)) (rfl) ?_
        refine g_istore_n hX (pc := 27) (lv1 := [(2, .int (vtUp (mVt M) (i + 1))), (0, .ref n), (1, .ref m), (3, .int (nI i))]) dX2_leadIf_27 (by decide) rfl ?_
        refine g_iinc hX (pc := 28) (v := nI (i + 1)) (lv1 := [(3, .int (nI (i + 1))), (2, .int (vtUp (mVt M) (i + 1))), (0, .ref n), (1, .ref m)]) dX2_leadIf_28 3 rfl (nI_1 _) (by decide) rfl ?_
        refine g_goto hX (pc := 31) (tgt := 4) dX2_leadIf_31 rfl ?_
        refine g_pk [1, 0, 0, 0, 0] rfl ?_
        refine g_cs (cs1 := [[(n, ob 1 [.ref lm, .ref lb, .ref lr, .int (Prod.snd B), .int nw])], wm, wk, wb, fz]) rfl ?_
        refine g_lv (lv1 := [(0, .ref n), (1, .ref m), (2, .int (vtUp (mVt M) (i + 1))), (3, .int (nI (i + 1)))]) [2, 3, 1, 0] rfl ?_
        refine g_widen (kc1 := 0) (ks1 := 0) (by omega) (by omega) ?_
        exact ih1 (i + 1) (by omega) (by omega)
  refine g_lv (lv1 := [(0, .ref n), (1, .ref m), (2, .int (vtUp (mVt M) 0)), (3, .int (nI 0))]) [2, 3, 1, 0] rfl ?_
  refine g_widen (kc1 := 0) (ks1 := 0) (by omega) (by omega) ?_
  exact lp1 ((List.length mas - 0) + 1) 0 (Nat.lt_succ_self _) (Nat.zero_le _)

set_option maxHeartbeats 4000000 in
theorem mt_Machine_isLeaderM (E : EE) (l : Launch) (m : Nat) (M : PM) (wk : va_W) (fz : va_W) (hM : IsMach E fz m M wk) : Mt E l yX9_isLeader cX9_isLeader 1 (some .boolean) 1 0 0 1 [.ref m] [wk] (fun (v_ : Option Value) (cs_ : List va_W) => v_ = some (.int (if mR M = 3 then 1 else 0)) ∧ cs_ = [wk]) := by
  refine Mt.of (by decide) (Nat.le_of_ble_eq_true rfl) (fun X hX hR hin => ?_)
  refine g_lv1 (lv1 := [(0, .ref m)]) rfl ?_
  obtain ⟨rn1, rk2, rl3, rs4, rst5, la6, sp7, hpk8, hpl9⟩ := hM.peek
  refine g_aload_n hX (pc := 0) dX9_isLeader_0 0 rfl ?_
  refine g_getm hX (pc := 1) fcX9 (sp_in 0 rfl hpk8) 6 (by decide) q940 rfl (v := .int (mR M)) rfl dX9_isLeader_1 ?_
  refine g_iconst hX (pc := 4) (v := 3) dX9_isLeader_4 (by decide) ?_
  refine g_val (v := if (mR M) = 3 then 1 else 0) (pcJ := 13) (st1 := []) (fun hj10 => ?_) ?_
  · refine g_icmp_ne hX (pc := 5) (tgt := 12) dX9_isLeader_5 rfl (fun c11 => ?_) (fun c11 => ?_)
    · refine g_iconst hX (pc := 12) (v := 0) dX9_isLeader_12 (by decide) ?_
      exact hj10 _ (by rw [if_neg c11])
    · refine g_iconst hX (pc := 8) (v := 1) dX9_isLeader_8 (by decide) ?_
      refine g_goto hX (pc := 9) (tgt := 13) dX9_isLeader_9 rfl ?_
      exact hj10 _ (by rw [if_pos c11])
  refine g_zret hX (pc := 13) hR (nz10 _) ?_ (Nat.le_of_ble_eq_true rfl) (Nat.le_of_ble_eq_true rfl) dX9_isLeader_13
  exact ⟨rfl, rfl⟩

set_option maxHeartbeats 4000000 in
theorem mt_Machine_isUpM (E : EE) (l : Launch) (m : Nat) (M : PM) (wk : va_W) (fz : va_W) (hM : IsMach E fz m M wk) : Mt E l yX9_isUp cX9_isUp 1 (some .boolean) 1 0 0 1 [.ref m] [wk] (fun (v_ : Option Value) (cs_ : List va_W) => v_ = some (.int (if mR M = 0 then 0 else 1)) ∧ cs_ = [wk]) := by
  refine Mt.of (by decide) (Nat.le_of_ble_eq_true rfl) (fun X hX hR hin => ?_)
  refine g_lv1 (lv1 := [(0, .ref m)]) rfl ?_
  obtain ⟨rn1, rk2, rl3, rs4, rst5, la6, sp7, hpk8, hpl9⟩ := hM.peek
  refine g_aload_n hX (pc := 0) dX9_isUp_0 0 rfl ?_
  refine g_getm hX (pc := 1) fcX9 (sp_in 0 rfl hpk8) 6 (by decide) q940 rfl (v := .int (mR M)) rfl dX9_isUp_1 ?_
  refine g_val (v := if (mR M) = 0 then 0 else 1) (pcJ := 12) (st1 := []) (fun hj10 => ?_) ?_
  · refine g_if_eq hX (pc := 4) (tgt := 11) dX9_isUp_4 rfl (fun c11 => ?_) (fun c11 => ?_)
    · refine g_iconst hX (pc := 11) (v := 0) dX9_isUp_11 (by decide) ?_
      exact hj10 _ (by rw [if_pos c11])
    · refine g_iconst hX (pc := 7) (v := 1) dX9_isUp_7 (by decide) ?_
      refine g_goto hX (pc := 8) (tgt := 12) dX9_isUp_8 rfl ?_
      exact hj10 _ (by rw [if_neg c11])
  refine g_zret hX (pc := 12) hR (nz01 _) ?_ (Nat.le_of_ble_eq_true rfl) (Nat.le_of_ble_eq_true rfl) dX9_isUp_12
  exact ⟨rfl, rfl⟩

set_option maxHeartbeats 4000000 in
theorem mt_Net_settle (E : EE) (l : Launch) (n : Nat) (lm : Nat) (lb : Nat) (lr : Nat) (lo : Int32) (nw : Int32) (mas : List Nat) (wm : va_W) (m : Nat) (M : PM) (wk : va_W) (fz : va_W) (R : List PR) (wr : va_W) (wq : va_W) (b : Nat) (hA : AL E lm mas wm) (hM : IsMach E fz m M wk) (hRq : RL E lr R wr wq) (hok : (mOK (List.length mas) (List.length R) b M)) (hrq : (rqOK R)) (hb : (b ≤ 33)) : Mt E l yX2_settle cX2_settle 5 none 9 6 89 213 [.ref n, .ref m] [[(n, ob 1 [.ref lm, .ref lb, .ref lr, .int lo, .int nw])], wm, wk, wr, wq, fz] (fun (v_ : Option Value) (cs_ : List va_W) => ∃ (w1 : va_W) (w2 : va_W), IsMach E fz m (Prod.fst (settle (List.length mas) nw M R)) w1 ∧ RL E lr (Prod.snd (settle (List.length mas) nw M R)) wr w2 ∧ v_ = none ∧ cs_ = [[(n, ob 1 [.ref lm, .ref lb, .ref lr, .int lo, .int nw])], wm, w1, wr, w2, fz]) := by
  have hok1 := hok
  obtain ⟨⟨o1, o2⟩, ⟨o3, o4⟩, ⟨o5, o6, o7, o8⟩, ⟨o9, o10⟩, o11, o12⟩ := hok
  have hll : lLast (mL M) = lB (mL M) + (lE (mL M)).length := rfl
  have hrl := hrq.1
  refine Mt.of (by decide) (Nat.le_of_ble_eq_true rfl) (fun X hX hR hin => ?_)
  refine g_lv1 (lv1 := [(0, .ref n), (1, .ref m)]) rfl ?_
  refine g_aload_n hX (pc := 0) dX2_settle_0 1 rfl ?_
  obtain ⟨fs1, hm2⟩ := IsMach.head hM
  refine g_callV hX (pc := 1) kX9_isLeader (mt_Machine_isLeaderM E l m M wk fz hM) q225 fcX9 (sp_in 2 rfl hm2) [2] rfl rfl rfl (Nat.le_of_ble_eq_true rfl) (Nat.le_of_ble_eq_true rfl) (Nat.le_of_ble_eq_true rfl) (by omega) (by omega) dX2_settle_1 (fun v w1 hp => ?_)
  obtain ⟨rfl, rfl⟩ := hp
  refine g_nrm (cs1 := [wk, [(n, ob 1 [.ref lm, .ref lb, .ref lr, .int lo, .int nw])], wm, wr, wq, fz]) (st1 := [.int (if mR M = 3 then 1 else 0)]) rfl rfl ?_
  refine g_if_eq hX (pc := 4) (tgt := 12) dX2_settle_4 rfl (fun c3_ => ?_) (fun c3_ => ?_)
  · have c3 := z10.mp c3_
    have hM1 : (sureOf (List.length mas) M) = M := if_neg c3
    have h4 : IsMach E fz m (sureOf (List.length mas) M) wk := by rw [hM1]; exact hM
    obtain ⟨hI0, hen⟩ : dInv (sureOf (List.length mas) M) (List.length R) (en3 (sureOf (List.length mas) M) R) ∧ enOK (List.length R) (lE (mL (sureOf (List.length mas) M))) := sureOf_inv hok1 hrq
    have hs1 : lLast (mL (sureOf (List.length mas) M)) ≤ b ∧ mSu (sureOf (List.length mas) M) ≤ b ∧ lB (mL (sureOf (List.length mas) M)) ≤ mDn (sureOf (List.length mas) M) := sureOf_b hok1
    have lp5 : ∀ (F1 : Nat) (x : PM × List PR) (wkL : va_W) (wqL : va_W), mSu (sureOf (List.length mas) M) - mDn (Prod.fst x) < F1 → (dInv (sureOf (List.length mas) M) (List.length R) x) → (doAll nw x = (doAll nw (en3 (sureOf (List.length mas) M) R))) → (mR (Prod.fst x) = mR (sureOf (List.length mas) M) ∧ mLz (Prod.fst x) = mLz (sureOf (List.length mas) M)) → IsMach E fz m (Prod.fst x) wkL → RL E lr (Prod.snd x) wr wqL → G E l X [[(n, ob 1 [.ref lm, .ref lb, .ref lr, .int lo, .int nw])], wm, wkL, wr, wqL, fz] 0 0 12 [(0, .ref n), (1, .ref m)] [] := by
      intro F1
      induction F1 with
      | zero =>
        intro x wkL wqL hF hI hG hx3 hML hRL
        exact absurd hF (Nat.not_lt_zero _)
      | succ F1 ih1 =>
        intro x wkL wqL hF hI hG hx3 hML hRL
        refine g_aload_n hX (pc := 12) dX2_settle_12 1 rfl ?_
        obtain ⟨rn6, rk7, rl8, rs9, rst10, la11, sp12, hpk13, hpl14⟩ := hML.peek
        refine g_getNm hX (pc := 13) fcX9 (sp_in 2 rfl hpk13) 8 (by decide) q945 rfl (v := .int (nI (mSu (Prod.fst x)))) rfl dX2_settle_13 ?_
        refine g_aload_n hX (pc := 16) dX2_settle_16 1 rfl ?_
        refine g_getNm hX (pc := 17) fcX9 (sp_in 2 rfl hpk13) 9 (by decide) q947 rfl (v := .int (nI (mDn (Prod.fst x)))) rfl dX2_settle_17 ?_
        refine g_icmp_le hX (pc := 20) (tgt := 118) dX2_settle_20 rfl (fun c15 => ?_) (fun c15 => ?_)
        · obtain ⟨⟨i1, i2, i3⟩, ⟨i4, i5, i6⟩, i7, i8⟩ := hI
          have d1 : mSu (Prod.fst x) ≤ mDn (Prod.fst x) := (nI_leI (by omega) (by omega)).mp c15
          rw [doGo_e d1] at hG
          obtain ⟨rn16, rk17, rl18, rs19, rst20, la21, sp22, hpk23, hpl24⟩ := hML.peek
          refine g_aload_n hX (pc := 118) dX2_settle_118 1 rfl ?_
          refine g_getNm hX (pc := 119) fcX9 (sp_in 2 rfl hpk23) 10 (by decide) q949 rfl (v := .int (bI (mLz (Prod.fst x)))) rfl dX2_settle_119 ?_
          refine g_if_ne hX (pc := 122) (tgt := 129) dX2_settle_122 rfl (fun c25_ => ?_) (fun c25_ => ?_)
          · have c25 := mt bI_0.mpr c25_
            have hfin : (settle (List.length mas) nw M R) = x := by
              unfold settle
              rw [show doAll nw (sureOf (List.length mas) M, R) = x from hG.symm]
              show (mSave _, _) = _
              unfold mSave
              rw [if_pos (by simpa using c25)]
            refine g_vret hX (pc := 129) hR ?_ (by omega) (by omega) dX2_settle_129
            rw [hfin]
            exact ⟨_, _, hML, hRL, rfl, rfl⟩
          · have c25 := bI_0.mp c25_
            obtain ⟨rn26, rk27, rl28, rs29, rst30, fn31, fk32, wl33, ws34, wst35, hn36, hL37, hV38, hS39, rfl⟩ := hML
            obtain ⟨la40, sp41, ges42, wl33, hE43, hges44, hsp45, rfl⟩ := hL37
            refine g_fl (cs1 := [[(n, ob 1 [.ref lm, .ref lb, .ref lr, .int lo, .int nw])], wm, [(m, ob 8 [.int (nI (mN (Prod.fst x))), .ref rn26, .ref rk27, .ref rl28, .ref rs29, .ref rst30, .int (mR (Prod.fst x)), .int (mVt (Prod.fst x)), .int (nI (mSu (Prod.fst x))), .int (nI (mDn (Prod.fst x))), .int (bI (mLz (Prod.fst x)))])], [(rn26, iA (aC E 0) 5 fn31)], [(rk27, iA (aC E 0) 5 fk32)], [(rl28, ob 9 [.ref la40, .int (lT (mL (Prod.fst x))), .int (lV (mL (Prod.fst x))), .int (nI (lB (mL (Prod.fst x)))), .int (lBT (mL (Prod.fst x))), .ref sp41])], wl33, ws34, wst35, wr, wqL, fz]) (by simp only [List.flatten_cons, List.flatten_nil, List.cons_append, List.append_assoc, List.nil_append, List.append_nil]) ?_
            have hl_ges42 : List.length ges42 = List.length (lE (mL (Prod.fst x))) := by rw [← hges44, List.length_map]
            have hsv : List.length ges42 ≤ 33 := by
              have h1 : lLast (mL (Prod.fst x)) = lB (mL (Prod.fst x)) + (lE (mL (Prod.fst x))).length := rfl
              have h2 : lLast (mL (Prod.fst x)) = lLast (mL (sureOf (List.length mas) M)) := by rw [i1]
              omega
            have hfl := fl_le33 hsv
            refine g_aload_n hX (pc := 125) dX2_settle_125 1 rfl ?_
            refine g_callV hX (pc := 126) kX9_save (mt_Machine_save E l m (nI (mN (Prod.fst x))) rn26 rk27 rl28 rs29 rst30 (mR (Prod.fst x)) (mVt (Prod.fst x)) (nI (mSu (Prod.fst x))) (nI (mDn (Prod.fst x))) (bI (mLz (Prod.fst x))) la40 (lT (mL (Prod.fst x))) (lV (mL (Prod.fst x))) (lB (mL (Prod.fst x))) (lBT (mL (Prod.fst x))) sp41 fz ges42 wl33 hE43 (by omega)) q1175 fcX9 (sp_mem (i := 2) rfl) [2, 4, 4, 8] rfl rfl rfl (Nat.le_of_ble_eq_true rfl) (Nat.le_of_ble_eq_true rfl) (Nat.le_of_ble_eq_true rfl) (by omega) (by omega) dX2_settle_126 (fun v w1 hp => ?_)
            obtain ⟨q46, lb47, w148, h49, rfl, rfl⟩ := hp
            refine g_nrm (cs1 := [[(m, ob 8 [.int (nI (mN (Prod.fst x))), .ref rn26, .ref rk27, .ref rl28, .ref q46, .ref rst30, .int (mR (Prod.fst x)), .int (mVt (Prod.fst x)), .int (nI (mSu (Prod.fst x))), .int (nI (mDn (Prod.fst x))), .int (bI (mLz (Prod.fst x)))])], [(q46, ob 9 [.ref lb47, .int (lT (mL (Prod.fst x))), .int (lV (mL (Prod.fst x))), .int (nI (lB (mL (Prod.fst x)))), .int (lBT (mL (Prod.fst x))), .ref sp41])], w148, [(rl28, ob 9 [.ref la40, .int (lT (mL (Prod.fst x))), .int (lV (mL (Prod.fst x))), .int (nI (lB (mL (Prod.fst x)))), .int (lBT (mL (Prod.fst x))), .ref sp41])], wl33, fz, [(n, ob 1 [.ref lm, .ref lb, .ref lr, .int lo, .int nw])], wm, [(rn26, iA (aC E 0) 5 fn31)], [(rk27, iA (aC E 0) 5 fk32)], ws34, wst35, wr, wqL]) (st1 := []) rfl rfl ?_
            refine g_drop (cs1 := [[(m, ob 8 [.int (nI (mN (Prod.fst x))), .ref rn26, .ref rk27, .ref rl28, .ref q46, .ref rst30, .int (mR (Prod.fst x)), .int (mVt (Prod.fst x)), .int (nI (mSu (Prod.fst x))), .int (nI (mDn (Prod.fst x))), .int (bI (mLz (Prod.fst x)))])], [(q46, ob 9 [.ref lb47, .int (lT (mL (Prod.fst x))), .int (lV (mL (Prod.fst x))), .int (nI (lB (mL (Prod.fst x)))), .int (lBT (mL (Prod.fst x))), .ref sp41])], w148, [(rl28, ob 9 [.ref la40, .int (lT (mL (Prod.fst x))), .int (lV (mL (Prod.fst x))), .int (nI (lB (mL (Prod.fst x)))), .int (lBT (mL (Prod.fst x))), .ref sp41])], wl33, fz, [(n, ob 1 [.ref lm, .ref lb, .ref lr, .int lo, .int nw])], wm, [(rn26, iA (aC E 0) 5 fn31)], [(rk27, iA (aC E 0) 5 fk32)], wst35, wr, wqL]) [10] rfl ?_
            refine g_pk [1, 1] rfl ?_
            refine g_cs (cs1 := [[(q46, ob 9 [.ref lb47, .int (lT (mL (Prod.fst x))), .int (lV (mL (Prod.fst x))), .int (nI (lB (mL (Prod.fst x)))), .int (lBT (mL (Prod.fst x))), .ref sp41])], w148, [(m, ob 8 [.int (nI (mN (Prod.fst x))), .ref rn26, .ref rk27, .ref rl28, .ref q46, .ref rst30, .int (mR (Prod.fst x)), .int (mVt (Prod.fst x)), .int (nI (mSu (Prod.fst x))), .int (nI (mDn (Prod.fst x))), .int (bI (mLz (Prod.fst x)))])], [(rl28, ob 9 [.ref la40, .int (lT (mL (Prod.fst x))), .int (lV (mL (Prod.fst x))), .int (nI (lB (mL (Prod.fst x)))), .int (lBT (mL (Prod.fst x))), .ref sp41])], wl33, fz, [(n, ob 1 [.ref lm, .ref lb, .ref lr, .int lo, .int nw])], wm, [(rn26, iA (aC E 0) 5 fn31)], [(rk27, iA (aC E 0) 5 fk32)], wst35, wr, wqL]) rfl ?_
            refine g_fl (cs1 := [((q46, ob 9 [.ref lb47, .int (lT (mL (Prod.fst x))), .int (lV (mL (Prod.fst x))), .int (nI (lB (mL (Prod.fst x)))), .int (lBT (mL (Prod.fst x))), .ref sp41]) :: (w148)), [(m, ob 8 [.int (nI (mN (Prod.fst x))), .ref rn26, .ref rk27, .ref rl28, .ref q46, .ref rst30, .int (mR (Prod.fst x)), .int (mVt (Prod.fst x)), .int (nI (mSu (Prod.fst x))), .int (nI (mDn (Prod.fst x))), .int (bI (mLz (Prod.fst x)))])], [(rl28, ob 9 [.ref la40, .int (lT (mL (Prod.fst x))), .int (lV (mL (Prod.fst x))), .int (nI (lB (mL (Prod.fst x)))), .int (lBT (mL (Prod.fst x))), .ref sp41])], wl33, fz, [(n, ob 1 [.ref lm, .ref lb, .ref lr, .int lo, .int nw])], wm, [(rn26, iA (aC E 0) 5 fn31)], [(rk27, iA (aC E 0) 5 fk32)], wst35, wr, wqL]) (by simp only [List.flatten_cons, List.flatten_nil, List.cons_append, List.append_assoc, List.nil_append, List.append_nil]) ?_
            have hL50 : IsLog E fz q46 (mL (Prod.fst x)) ((q46, ob 9 [.ref lb47, .int (lT (mL (Prod.fst x))), .int (lV (mL (Prod.fst x))), .int (nI (lB (mL (Prod.fst x)))), .int (lBT (mL (Prod.fst x))), .ref sp41]) :: (w148)) := ⟨_, _, _, _, h49, hges44, hsp45, rfl⟩
            generalize ((q46, ob 9 [.ref lb47, .int (lT (mL (Prod.fst x))), .int (lV (mL (Prod.fst x))), .int (nI (lB (mL (Prod.fst x)))), .int (lBT (mL (Prod.fst x))), .ref sp41]) :: (w148)) = ws51 at hL50 ⊢
            refine g_pk [1, 6, 6, 1, 1, 0, 3] rfl ?_
            refine g_cs (cs1 := [[(m, ob 8 [.int (nI (mN (Prod.fst x))), .ref rn26, .ref rk27, .ref rl28, .ref q46, .ref rst30, .int (mR (Prod.fst x)), .int (mVt (Prod.fst x)), .int (nI (mSu (Prod.fst x))), .int (nI (mDn (Prod.fst x))), .int (bI (mLz (Prod.fst x)))])], [(rn26, iA (aC E 0) 5 fn31)], [(rk27, iA (aC E 0) 5 fk32)], [(rl28, ob 9 [.ref la40, .int (lT (mL (Prod.fst x))), .int (lV (mL (Prod.fst x))), .int (nI (lB (mL (Prod.fst x)))), .int (lBT (mL (Prod.fst x))), .ref sp41])], wl33, ws51, wst35, fz, [(n, ob 1 [.ref lm, .ref lb, .ref lr, .int lo, .int nw])], wm, wr, wqL]) rfl ?_
            refine g_fl (cs1 := [((m, ob 8 [.int (nI (mN (Prod.fst x))), .ref rn26, .ref rk27, .ref rl28, .ref q46, .ref rst30, .int (mR (Prod.fst x)), .int (mVt (Prod.fst x)), .int (nI (mSu (Prod.fst x))), .int (nI (mDn (Prod.fst x))), .int (bI (mLz (Prod.fst x)))]) :: (rn26, iA (aC E 0) 5 fn31) :: (rk27, iA (aC E 0) 5 fk32) :: (((rl28, ob 9 [.ref la40, .int (lT (mL (Prod.fst x))), .int (lV (mL (Prod.fst x))), .int (nI (lB (mL (Prod.fst x)))), .int (lBT (mL (Prod.fst x))), .ref sp41]) :: wl33) ++ (ws51 ++ wst35))), fz, [(n, ob 1 [.ref lm, .ref lb, .ref lr, .int lo, .int nw])], wm, wr, wqL]) (by simp only [List.flatten_cons, List.flatten_nil, List.cons_append, List.append_assoc, List.nil_append, List.append_nil]) ?_
            have hM52 : IsMach E fz m (setV (Prod.fst x) (mL (Prod.fst x))) ((m, ob 8 [.int (nI (mN (Prod.fst x))), .ref rn26, .ref rk27, .ref rl28, .ref q46, .ref rst30, .int (mR (Prod.fst x)), .int (mVt (Prod.fst x)), .int (nI (mSu (Prod.fst x))), .int (nI (mDn (Prod.fst x))), .int (bI (mLz (Prod.fst x)))]) :: (rn26, iA (aC E 0) 5 fn31) :: (rk27, iA (aC E 0) 5 fk32) :: (((rl28, ob 9 [.ref la40, .int (lT (mL (Prod.fst x))), .int (lV (mL (Prod.fst x))), .int (nI (lB (mL (Prod.fst x)))), .int (lBT (mL (Prod.fst x))), .ref sp41]) :: wl33) ++ (ws51 ++ wst35))) := ⟨_, _, _, _, _, _, _, _, _, _, hn36, ⟨_, _, _, _, hE43, hges44, hsp45, rfl⟩, hL50, hS39, rfl⟩
            generalize ((m, ob 8 [.int (nI (mN (Prod.fst x))), .ref rn26, .ref rk27, .ref rl28, .ref q46, .ref rst30, .int (mR (Prod.fst x)), .int (mVt (Prod.fst x)), .int (nI (mSu (Prod.fst x))), .int (nI (mDn (Prod.fst x))), .int (bI (mLz (Prod.fst x)))]) :: (rn26, iA (aC E 0) 5 fn31) :: (rk27, iA (aC E 0) 5 fk32) :: (((rl28, ob 9 [.ref la40, .int (lT (mL (Prod.fst x))), .int (lV (mL (Prod.fst x))), .int (nI (lB (mL (Prod.fst x)))), .int (lBT (mL (Prod.fst x))), .ref sp41]) :: wl33) ++ (ws51 ++ wst35))) = wk53 at hM52 ⊢
            have hfin : (settle (List.length mas) nw M R) = en3 (setV (Prod.fst x) (mL (Prod.fst x))) (Prod.snd x) := by
              unfold settle
              rw [show doAll nw (sureOf (List.length mas) M, R) = x from hG.symm]
              show (mSave _, _) = _
              unfold mSave
              rw [if_neg (by rw [c25]; exact Bool.false_ne_true)]
            refine g_pk [2, 2, 0, 1, 1, 0] rfl ?_
            refine g_cs (cs1 := [[(n, ob 1 [.ref lm, .ref lb, .ref lr, .int lo, .int nw])], wm, wk53, wr, wqL, fz]) rfl ?_
            refine g_vret hX (pc := 129) hR ?_ (by omega) (by omega) dX2_settle_129
            rw [hfin]
            exact ⟨_, _, hM52, hRL, rfl, rfl⟩
        · obtain ⟨⟨i1, i2, i3⟩, ⟨i4, i5, i6⟩, i7, i8⟩ := hI
          have d1 : mDn (Prod.fst x) < mSu (Prod.fst x) := (nI_ltI (by omega) (by omega)).mp (Int32.not_le.mp c15)
          have hSt := doStep_Su (now := nw) (x := x)
          have hI : dInv (sureOf (List.length mas) M) (List.length R) x := ⟨⟨i1, i2, i3⟩, ⟨i4, i5, i6⟩, i7, i8⟩
          have hI2 := doStep_inv (now := nw) hI (by omega) hen
          have hG2 : doAll nw (doStep nw x) = (doAll nw (en3 (sureOf (List.length mas) M) R)) := (doGo_s d1 hSt.1 hSt.2.1).trans hG
          obtain ⟨rn54, rk55, rl56, rs57, rst58, fn59, fk60, wl61, ws62, wst63, hn64, hL65, hV66, hS67, rfl⟩ := hML
          obtain ⟨la68, sp69, ges70, wl61, hE71, hges72, hsp73, rfl⟩ := hL65
          refine g_fl (cs1 := [[(n, ob 1 [.ref lm, .ref lb, .ref lr, .int lo, .int nw])], wm, [(m, ob 8 [.int (nI (mN (Prod.fst x))), .ref rn54, .ref rk55, .ref rl56, .ref rs57, .ref rst58, .int (mR (Prod.fst x)), .int (mVt (Prod.fst x)), .int (nI (mSu (Prod.fst x))), .int (nI (mDn (Prod.fst x))), .int (bI (mLz (Prod.fst x)))])], [(rn54, iA (aC E 0) 5 fn59)], [(rk55, iA (aC E 0) 5 fk60)], [(rl56, ob 9 [.ref la68, .int (lT (mL (Prod.fst x))), .int (lV (mL (Prod.fst x))), .int (nI (lB (mL (Prod.fst x)))), .int (lBT (mL (Prod.fst x))), .ref sp69])], wl61, ws62, wst63, wr, wqL, fz]) (by simp only [List.flatten_cons, List.flatten_nil, List.cons_append, List.append_assoc, List.nil_append, List.append_nil]) ?_
          have hl_ges70 : List.length ges70 = List.length (lE (mL (Prod.fst x))) := by rw [← hges72, List.length_map]
          have hL1 : lLast (mL (Prod.fst x)) = lB (mL (Prod.fst x)) + (lE (mL (Prod.fst x))).length := rfl
          have hB1 : lB (mL (Prod.fst x)) = lB (mL (sureOf (List.length mas) M)) := by rw [i1]
          have hB2 : lLast (mL (Prod.fst x)) = lLast (mL (sureOf (List.length mas) M)) := by rw [i1]
          obtain ⟨g, hg⟩ := get_ex (l := ges70) (i := mDn (Prod.fst x) + 1 - lB (mL (Prod.fst x)) - 1) (by omega)
          have hz := (en_at hE71.2 hg).1
          have hge := enG_at hges72 hg
          have hgi : g.2 ∈ lE (mL (sureOf (List.length mas) M)) := by rw [← i1]; exact en_in hges72 hg
          have hee := hen _ hgi
          refine g_aload_n hX (pc := 23) dX2_settle_23 1 rfl ?_
          refine g_dup hX (pc := 24) dX2_settle_24 rfl ?_
          refine g_getN hX (pc := 25) fcX9 2 rfl 9 (by decide) q947 rfl (v := .int (nI (mDn (Prod.fst x)))) rfl dX2_settle_25 ?_
          refine g_iconst hX (pc := 28) (v := 1) dX2_settle_28 (by decide) ?_
          refine g_iadd hX (pc := 29) dX2_settle_29 ?_
          refine g_eqi (nI (mDn (Prod.fst x) + 1)) (nI_1 _) ?_
          refine g_putN hX (pc := 30) fcX9 2 (fs1 := [.int (nI (mN (Prod.fst x))), .ref rn54, .ref rk55, .ref rl56, .ref rs57, .ref rst58, .int (mR (Prod.fst x)), .int (mVt (Prod.fst x)), .int (nI (mSu (Prod.fst x))), .int (nI (mDn (Prod.fst x) + 1)), .int (bI (mLz (Prod.fst x)))]) (cs1 := [[(n, ob 1 [.ref lm, .ref lb, .ref lr, .int lo, .int nw])], wm, [(m, ob 8 [.int (nI (mN (Prod.fst x))), .ref rn54, .ref rk55, .ref rl56, .ref rs57, .ref rst58, .int (mR (Prod.fst x)), .int (mVt (Prod.fst x)), .int (nI (mSu (Prod.fst x))), .int (nI (mDn (Prod.fst x) + 1)), .int (bI (mLz (Prod.fst x)))])], [(rn54, iA (aC E 0) 5 fn59)], [(rk55, iA (aC E 0) 5 fk60)], [(rl56, ob 9 [.ref la68, .int (lT (mL (Prod.fst x))), .int (lV (mL (Prod.fst x))), .int (nI (lB (mL (Prod.fst x)))), .int (lBT (mL (Prod.fst x))), .ref sp69])], wl61, ws62, wst63, wr, wqL, fz]) rfl 9 (by decide) q947 rfl rfl rfl rfl (Nat.le_of_ble_eq_true rfl) rfl rfl dX2_settle_30 ?_
          refine g_aload_n hX (pc := 33) dX2_settle_33 1 rfl ?_
          refine g_getN hX (pc := 34) fcX9 2 rfl 3 (by decide) q933 rfl (v := .ref rl56) rfl dX2_settle_34 ?_
          refine g_aload_n hX (pc := 37) dX2_settle_37 1 rfl ?_
          refine g_getN hX (pc := 38) fcX9 2 rfl 9 (by decide) q947 rfl (v := .int (nI (mDn (Prod.fst x) + 1))) rfl dX2_settle_38 ?_
          refine g_callV hX (pc := 41) kX10_at (mt_Log_at E l rl56 la68 (lT (mL (Prod.fst x))) (lV (mL (Prod.fst x))) (lB (mL (Prod.fst x))) (lBT (mL (Prod.fst x))) sp69 fz ges70 wl61 (mDn (Prod.fst x) + 1) g hE71 (hg) (by omega) (by omega)) q248 fcX10 (sp_mem (i := 5) rfl) [5, 5, 9] rfl rfl rfl (Nat.le_of_ble_eq_true rfl) (Nat.le_of_ble_eq_true rfl) (Nat.le_of_ble_eq_true rfl) (by omega) (by omega) dX2_settle_41 (fun v w1 hp => ?_)
          obtain ⟨rfl, rfl⟩ := hp
          refine g_nrm (cs1 := [[(rl56, ob 9 [.ref la68, .int (lT (mL (Prod.fst x))), .int (lV (mL (Prod.fst x))), .int (nI (lB (mL (Prod.fst x)))), .int (lBT (mL (Prod.fst x))), .ref sp69])], wl61, fz, [(n, ob 1 [.ref lm, .ref lb, .ref lr, .int lo, .int nw])], wm, [(m, ob 8 [.int (nI (mN (Prod.fst x))), .ref rn54, .ref rk55, .ref rl56, .ref rs57, .ref rst58, .int (mR (Prod.fst x)), .int (mVt (Prod.fst x)), .int (nI (mSu (Prod.fst x))), .int (nI (mDn (Prod.fst x) + 1)), .int (bI (mLz (Prod.fst x)))])], [(rn54, iA (aC E 0) 5 fn59)], [(rk55, iA (aC E 0) 5 fk60)], ws62, wst63, wr, wqL]) (st1 := [.ref g.1]) rfl rfl ?_
          refine g_astore_n hX (pc := 44) (lv1 := [(2, .ref g.1), (0, .ref n), (1, .ref m)]) dX2_settle_44 (by decide) rfl ?_
          refine g_aload_n hX (pc := 45) dX2_settle_45 0 rfl ?_
          refine g_getNm hX (pc := 46) fcX14 (sp_in 2 rfl hz) 1 (by decide) q1121 rfl (v := .int g.2.2) rfl dX2_settle_46 ?_
          refine g_iconst hX (pc := 49) (v := (-1)) dX2_settle_49 (by decide) ?_
          refine g_icmp_eq hX (pc := 50) (tgt := 115) dX2_settle_50 rfl (fun c74 => ?_) (fun c74 => ?_)
          · have hds : doStep nw x = en3 (setDn (Prod.fst x) (mDn (Prod.fst x) + 1)) (Prod.snd x) := by
              unfold doStep
              rw [hge]
              exact if_pos c74
            refine g_pk [5, 5, 5, 0, 0, 3, 3] rfl ?_
            refine g_cs (cs1 := [[(m, ob 8 [.int (nI (mN (Prod.fst x))), .ref rn54, .ref rk55, .ref rl56, .ref rs57, .ref rst58, .int (mR (Prod.fst x)), .int (mVt (Prod.fst x)), .int (nI (mSu (Prod.fst x))), .int (nI (mDn (Prod.fst x) + 1)), .int (bI (mLz (Prod.fst x)))])], [(rn54, iA (aC E 0) 5 fn59)], [(rk55, iA (aC E 0) 5 fk60)], [(rl56, ob 9 [.ref la68, .int (lT (mL (Prod.fst x))), .int (lV (mL (Prod.fst x))), .int (nI (lB (mL (Prod.fst x)))), .int (lBT (mL (Prod.fst x))), .ref sp69])], wl61, ws62, wst63, fz, [(n, ob 1 [.ref lm, .ref lb, .ref lr, .int lo, .int nw])], wm, wr, wqL]) rfl ?_
            refine g_fl (cs1 := [((m, ob 8 [.int (nI (mN (Prod.fst x))), .ref rn54, .ref rk55, .ref rl56, .ref rs57, .ref rst58, .int (mR (Prod.fst x)), .int (mVt (Prod.fst x)), .int (nI (mSu (Prod.fst x))), .int (nI (mDn (Prod.fst x) + 1)), .int (bI (mLz (Prod.fst x)))]) :: (rn54, iA (aC E 0) 5 fn59) :: (rk55, iA (aC E 0) 5 fk60) :: (((rl56, ob 9 [.ref la68, .int (lT (mL (Prod.fst x))), .int (lV (mL (Prod.fst x))), .int (nI (lB (mL (Prod.fst x)))), .int (lBT (mL (Prod.fst x))), .ref sp69]) :: wl61) ++ (ws62 ++ wst63))), fz, [(n, ob 1 [.ref lm, .ref lb, .ref lr, .int lo, .int nw])], wm, wr, wqL]) (by simp only [List.flatten_cons, List.flatten_nil, List.cons_append, List.append_assoc, List.nil_append, List.append_nil]) ?_
            have hM75 : IsMach E fz m (setDn (Prod.fst x) (mDn (Prod.fst x) + 1)) ((m, ob 8 [.int (nI (mN (Prod.fst x))), .ref rn54, .ref rk55, .ref rl56, .ref rs57, .ref rst58, .int (mR (Prod.fst x)), .int (mVt (Prod.fst x)), .int (nI (mSu (Prod.fst x))), .int (nI (mDn (Prod.fst x) + 1)), .int (bI (mLz (Prod.fst x)))]) :: (rn54, iA (aC E 0) 5 fn59) :: (rk55, iA (aC E 0) 5 fk60) :: (((rl56, ob 9 [.ref la68, .int (lT (mL (Prod.fst x))), .int (lV (mL (Prod.fst x))), .int (nI (lB (mL (Prod.fst x)))), .int (lBT (mL (Prod.fst x))), .ref sp69]) :: wl61) ++ (ws62 ++ wst63))) := ⟨_, _, _, _, _, _, _, _, _, _, hn64, ⟨_, _, _, _, hE71, hges72, hsp73, rfl⟩, hV66, hS67, rfl⟩
            generalize ((m, ob 8 [.int (nI (mN (Prod.fst x))), .ref rn54, .ref rk55, .ref rl56, .ref rs57, .ref rst58, .int (mR (Prod.fst x)), .int (mVt (Prod.fst x)), .int (nI (mSu (Prod.fst x))), .int (nI (mDn (Prod.fst x) + 1)), .int (bI (mLz (Prod.fst x)))]) :: (rn54, iA (aC E 0) 5 fn59) :: (rk55, iA (aC E 0) 5 fk60) :: (((rl56, ob 9 [.ref la68, .int (lT (mL (Prod.fst x))), .int (lV (mL (Prod.fst x))), .int (nI (lB (mL (Prod.fst x)))), .int (lBT (mL (Prod.fst x))), .ref sp69]) :: wl61) ++ (ws62 ++ wst63))) = wk76 at hM75 ⊢
            have h77 : IsMach E fz m (Prod.fst (doStep nw x)) wk76 := by rw [hds]; exact hM75
            have h78 : RL E lr (Prod.snd (doStep nw x)) wr wqL := by rw [hds]; exact hRL
            refine g_goto hX (pc := 115) (tgt := 12) dX2_settle_115 rfl ?_
            refine g_pk [2, 2, 0, 1, 1, 0] rfl ?_
            refine g_cs (cs1 := [[(n, ob 1 [.ref lm, .ref lb, .ref lr, .int lo, .int nw])], wm, wk76, wr, wqL, fz]) rfl ?_
            refine g_lv (lv1 := [(0, .ref n), (1, .ref m)]) [1, 2] rfl ?_
            refine g_widen (kc1 := 0) (ks1 := 0) (by omega) (by omega) ?_
            exact ih1 (doStep nw x) wk76 wqL (by omega) (hI2) (hG2) (⟨hSt.2.2.trans hx3.1, doStep_Lz.trans hx3.2⟩) h77 h78
          · obtain ⟨rr79, hr80, hA81, rfl⟩ := hRL
            have hlr_rr79 : rr79.length = ((Prod.snd x)).length := by rw [← hr80, List.length_map]
            obtain ⟨j, hj1, hj2⟩ := hee.resolve_left c74
            obtain ⟨⟨a, r⟩, hj⟩ := get_ex (l := rr79) (i := j) (by omega)
            have hj3 : (List.map Prod.fst rr79)[j]? = some a := by rw [List.getElem?_map, hj]; rfl
            have hj4 : (Prod.snd x)[j]? = some r := by rw [← hr80, List.getElem?_map, hj]; rfl
            have hj5 := i7.2 r (List.mem_of_getElem? hj4)
            have hj40 := i7.1
            have hq := rqAt_nI hj4 (by omega)
            have hds : doStep nw x = en3 (setS (setDn (Prod.fst x) (mDn (Prod.fst x) + 1)) (Prod.fst (sDoes (mS (Prod.fst x)) g.2.2 (rC r) (rK r) (rY r) (rA r) (rB r)))) (if mR (Prod.fst x) = 3 ∧ g.2.1 = lT (mL (Prod.fst x)) then List.set (Prod.snd x) j (rAnswer r (Prod.snd (sDoes (mS (Prod.fst x)) g.2.2 (rC r) (rK r) (rY r) (rA r) (rB r))) nw) else Prod.snd x) := by
              unfold doStep
              rw [hge]
              refine (if_neg c74).trans ?_
              show (_, (if _ then _ else _)) = _
              rw [show rqAt (Prod.snd x) g.2.2 = r by rw [hj2]; exact hq, show g.2.2.toNatClampNeg = j by rw [hj2]; exact nI_clamp (by omega)]
              rfl
            refine g_fl (cs1 := [[(rl56, ob 9 [.ref la68, .int (lT (mL (Prod.fst x))), .int (lV (mL (Prod.fst x))), .int (nI (lB (mL (Prod.fst x)))), .int (lBT (mL (Prod.fst x))), .ref sp69])], wl61, fz, [(n, ob 1 [.ref lm, .ref lb, .ref lr, .int lo, .int nw])], wm, [(m, ob 8 [.int (nI (mN (Prod.fst x))), .ref rn54, .ref rk55, .ref rl56, .ref rs57, .ref rst58, .int (mR (Prod.fst x)), .int (mVt (Prod.fst x)), .int (nI (mSu (Prod.fst x))), .int (nI (mDn (Prod.fst x) + 1)), .int (bI (mLz (Prod.fst x)))])], [(rn54, iA (aC E 0) 5 fn59)], [(rk55, iA (aC E 0) 5 fk60)], ws62, wst63, wr, (RS E (List.take j rr79)), [(a, ob 10 [.int (nI (rC r)), .ref (aK E (rK r)), .int (nI (rY r)), .int (rA r), .int (rB r), .int (rRes r), .int (rSent r), .int (rAns r), .int (rTimes r)])], (RS E (List.drop (j + 1) rr79))]) (by simp only [rs_at hj, List.flatten_cons, List.flatten_nil, List.cons_append, List.append_assoc, List.nil_append, List.append_nil]) ?_
            refine g_aload_n hX (pc := 53) dX2_settle_53 1 rfl ?_
            refine g_get hX (pc := 54) fcX2 3 rfl 2 (by decide) q159 rfl (v := .ref lr) rfl dX2_settle_54 ?_
            refine g_aload_n hX (pc := 57) dX2_settle_57 0 rfl ?_
            refine g_getNm hX (pc := 58) fcX14 (sp_in 2 rfl hz) 1 (by decide) q1121 rfl (v := .int g.2.2) rfl dX2_settle_58 ?_
            refine g_eqi (nI j) (hj2) ?_
            obtain ⟨fs82, hm83⟩ := AL.head hA81
            refine g_callF hX (pc := 61) kfJ2_get (mt_AL_get E l lr (List.map Prod.fst rr79) wr j a hA81 (hj3)) q203 fcJ2 (sp_in 10 rfl hm83) [10] rfl rfl rfl (Nat.le_of_ble_eq_true rfl) (Nat.le_of_ble_eq_true rfl) (Nat.le_of_ble_eq_true rfl) (by omega) (by omega) dX2_settle_61 (fun v w1 hp => ?_)
            obtain ⟨rfl, rfl⟩ := hp
            refine g_nrm (cs1 := [wr, [(rl56, ob 9 [.ref la68, .int (lT (mL (Prod.fst x))), .int (lV (mL (Prod.fst x))), .int (nI (lB (mL (Prod.fst x)))), .int (lBT (mL (Prod.fst x))), .ref sp69])], wl61, fz, [(n, ob 1 [.ref lm, .ref lb, .ref lr, .int lo, .int nw])], wm, [(m, ob 8 [.int (nI (mN (Prod.fst x))), .ref rn54, .ref rk55, .ref rl56, .ref rs57, .ref rst58, .int (mR (Prod.fst x)), .int (mVt (Prod.fst x)), .int (nI (mSu (Prod.fst x))), .int (nI (mDn (Prod.fst x) + 1)), .int (bI (mLz (Prod.fst x)))])], [(rn54, iA (aC E 0) 5 fn59)], [(rk55, iA (aC E 0) 5 fk60)], ws62, wst63, (RS E (List.take j rr79)), [(a, ob 10 [.int (nI (rC r)), .ref (aK E (rK r)), .int (nI (rY r)), .int (rA r), .int (rB r), .int (rRes r), .int (rSent r), .int (rAns r), .int (rTimes r)])], (RS E (List.drop (j + 1) rr79))]) (st1 := [.ref a]) rfl rfl ?_
            refine g_cast hX (pc := 66) fcX12 (sp_mem (i := 12) rfl) q726 dX2_settle_66 ?_
            refine g_astore_n hX (pc := 69) (lv1 := [(3, .ref a), (2, .ref g.1), (0, .ref n), (1, .ref m)]) dX2_settle_69 (by decide) rfl ?_
            refine g_aload_n hX (pc := 70) dX2_settle_70 3 rfl ?_
            refine g_getN hX (pc := 71) fcX9 6 rfl 5 (by decide) q938 rfl (v := .ref rst58) rfl dX2_settle_71 ?_
            refine g_aload_n hX (pc := 74) dX2_settle_74 1 rfl ?_
            refine g_getNm hX (pc := 75) fcX14 (sp_in 3 rfl hz) 1 (by decide) q1121 rfl (v := .int g.2.2) rfl dX2_settle_75 ?_
            refine g_aload_n hX (pc := 78) dX2_settle_78 0 rfl ?_
            obtain ⟨sr84, hs85⟩ := hS67
            obtain ⟨fs86, hm87⟩ := IsSR.head hs85
            refine g_callV hX (pc := 79) kX8_does (mt_Store_does E l rst58 sr84 (mS (Prod.fst x)) wst63 g.2.2 a (rC r) (rK r) (rY r) (rA r) (rB r) (rRes r) (rSent r) (rAns r) (rTimes r) hs85 (by omega) (by omega) (by omega)) q1147 fcX8 (sp_in 10 rfl hm87) [10, 11] rfl rfl rfl (Nat.le_of_ble_eq_true rfl) (Nat.le_of_ble_eq_true rfl) (Nat.le_of_ble_eq_true rfl) (by omega) (by omega) dX2_settle_79 (fun v w1 hp => ?_)
            obtain ⟨w188, h89, rfl, rfl⟩ := hp
            refine g_nrm (cs1 := [w188, [(a, ob 10 [.int (nI (rC r)), .ref (aK E (rK r)), .int (nI (rY r)), .int (rA r), .int (rB r), .int (rRes r), .int (rSent r), .int (rAns r), .int (rTimes r)])], wr, [(rl56, ob 9 [.ref la68, .int (lT (mL (Prod.fst x))), .int (lV (mL (Prod.fst x))), .int (nI (lB (mL (Prod.fst x)))), .int (lBT (mL (Prod.fst x))), .ref sp69])], wl61, fz, [(n, ob 1 [.ref lm, .ref lb, .ref lr, .int lo, .int nw])], wm, [(m, ob 8 [.int (nI (mN (Prod.fst x))), .ref rn54, .ref rk55, .ref rl56, .ref rs57, .ref rst58, .int (mR (Prod.fst x)), .int (mVt (Prod.fst x)), .int (nI (mSu (Prod.fst x))), .int (nI (mDn (Prod.fst x) + 1)), .int (bI (mLz (Prod.fst x)))])], [(rn54, iA (aC E 0) 5 fn59)], [(rk55, iA (aC E 0) 5 fk60)], ws62, (RS E (List.take j rr79)), (RS E (List.drop (j + 1) rr79))]) (st1 := [.int (Prod.snd (sDoes (mS (Prod.fst x)) g.2.2 (rC r) (rK r) (rY r) (rA r) (rB r)))]) rfl rfl ?_
            refine g_istore hX (pc := 82) (lv1 := [(4, .int (Prod.snd (sDoes (mS (Prod.fst x)) g.2.2 (rC r) (rK r) (rY r) (rA r) (rB r)))), (3, .ref a), (2, .ref g.1), (0, .ref n), (1, .ref m)]) dX2_settle_82 (by decide) rfl ?_
            refine g_aload_n hX (pc := 84) dX2_settle_84 4 rfl ?_
            refine g_callV hX (pc := 85) kX9_isLeader (mt_Machine_isLeader E l m (nI (mN (Prod.fst x))) rn54 rk55 rl56 rs57 rst58 (mR (Prod.fst x)) (mVt (Prod.fst x)) (nI (mSu (Prod.fst x))) (nI (mDn (Prod.fst x) + 1)) (bI (mLz (Prod.fst x)))) q225 fcX9 (sp_mem (i := 8) rfl) [8] rfl rfl rfl (Nat.le_of_ble_eq_true rfl) (Nat.le_of_ble_eq_true rfl) (Nat.le_of_ble_eq_true rfl) (by omega) (by omega) dX2_settle_85 (fun v w1 hp => ?_)
            obtain ⟨rfl, rfl⟩ := hp
            refine g_nrm (cs1 := [[(m, ob 8 [.int (nI (mN (Prod.fst x))), .ref rn54, .ref rk55, .ref rl56, .ref rs57, .ref rst58, .int (mR (Prod.fst x)), .int (mVt (Prod.fst x)), .int (nI (mSu (Prod.fst x))), .int (nI (mDn (Prod.fst x) + 1)), .int (bI (mLz (Prod.fst x)))])], w188, [(a, ob 10 [.int (nI (rC r)), .ref (aK E (rK r)), .int (nI (rY r)), .int (rA r), .int (rB r), .int (rRes r), .int (rSent r), .int (rAns r), .int (rTimes r)])], wr, [(rl56, ob 9 [.ref la68, .int (lT (mL (Prod.fst x))), .int (lV (mL (Prod.fst x))), .int (nI (lB (mL (Prod.fst x)))), .int (lBT (mL (Prod.fst x))), .ref sp69])], wl61, fz, [(n, ob 1 [.ref lm, .ref lb, .ref lr, .int lo, .int nw])], wm, [(rn54, iA (aC E 0) 5 fn59)], [(rk55, iA (aC E 0) 5 fk60)], ws62, (RS E (List.take j rr79)), (RS E (List.drop (j + 1) rr79))]) (st1 := [.int (if (mR (Prod.fst x)) = 3 then 1 else 0)]) rfl rfl ?_
            refine g_if_eq hX (pc := 88) (tgt := 115) dX2_settle_88 rfl (fun c90_ => ?_) (fun c90_ => ?_)
            · have c90 := z10.mp c90_
              rw [if_neg (fun z => c90 z.1)] at hds
              have hst0 : List.set (Prod.snd x) j r = Prod.snd x := by rw [← (List.getElem?_eq_some_iff.mp hj4).2]; exact List.set_getElem_self _
              refine g_pk [12, 2, 11] rfl ?_
              refine g_cs (cs1 := [(RS E (List.take j rr79)), [(a, ob 10 [.int (nI (rC r)), .ref (aK E (rK r)), .int (nI (rY r)), .int (rA r), .int (rB r), .int (rRes r), .int (rSent r), .int (rAns r), .int (rTimes r)])], (RS E (List.drop (j + 1) rr79)), [(m, ob 8 [.int (nI (mN (Prod.fst x))), .ref rn54, .ref rk55, .ref rl56, .ref rs57, .ref rst58, .int (mR (Prod.fst x)), .int (mVt (Prod.fst x)), .int (nI (mSu (Prod.fst x))), .int (nI (mDn (Prod.fst x) + 1)), .int (bI (mLz (Prod.fst x)))])], w188, wr, [(rl56, ob 9 [.ref la68, .int (lT (mL (Prod.fst x))), .int (lV (mL (Prod.fst x))), .int (nI (lB (mL (Prod.fst x)))), .int (lBT (mL (Prod.fst x))), .ref sp69])], wl61, fz, [(n, ob 1 [.ref lm, .ref lb, .ref lr, .int lo, .int nw])], wm, [(rn54, iA (aC E 0) 5 fn59)], [(rk55, iA (aC E 0) 5 fk60)], ws62]) rfl ?_
              refine g_fl (cs1 := [((RS E (List.take j rr79)) ++ ([(a, ob 10 [.int (nI (rC r)), .ref (aK E (rK r)), .int (nI (rY r)), .int (rA r), .int (rB r), .int (rRes r), .int (rSent r), .int (rAns r), .int (rTimes r)])] ++ (RS E (List.drop (j + 1) rr79)))), [(m, ob 8 [.int (nI (mN (Prod.fst x))), .ref rn54, .ref rk55, .ref rl56, .ref rs57, .ref rst58, .int (mR (Prod.fst x)), .int (mVt (Prod.fst x)), .int (nI (mSu (Prod.fst x))), .int (nI (mDn (Prod.fst x) + 1)), .int (bI (mLz (Prod.fst x)))])], w188, wr, [(rl56, ob 9 [.ref la68, .int (lT (mL (Prod.fst x))), .int (lV (mL (Prod.fst x))), .int (nI (lB (mL (Prod.fst x)))), .int (lBT (mL (Prod.fst x))), .ref sp69])], wl61, fz, [(n, ob 1 [.ref lm, .ref lb, .ref lr, .int lo, .int nw])], wm, [(rn54, iA (aC E 0) 5 fn59)], [(rk55, iA (aC E 0) 5 fk60)], ws62]) (by simp only [List.flatten_cons, List.flatten_nil, List.cons_append, List.append_assoc, List.nil_append, List.append_nil]) ?_
              have hRL91 : RL E lr (List.set (Prod.snd x) j r) wr ((RS E (List.take j rr79)) ++ ([(a, ob 10 [.int (nI (rC r)), .ref (aK E (rK r)), .int (nI (rY r)), .int (rA r), .int (rB r), .int (rRes r), .int (rSent r), .int (rAns r), .int (rTimes r)])] ++ (RS E (List.drop (j + 1) rr79)))) := by rw [← hr80]; exact rl_set (r' := r) hj hA81
              generalize ((RS E (List.take j rr79)) ++ ([(a, ob 10 [.int (nI (rC r)), .ref (aK E (rK r)), .int (nI (rY r)), .int (rA r), .int (rB r), .int (rRes r), .int (rSent r), .int (rAns r), .int (rTimes r)])] ++ (RS E (List.drop (j + 1) rr79)))) = wq92 at hRL91 ⊢
              refine g_pk [1, 8, 8, 3, 3, 6, 1] rfl ?_
              refine g_cs (cs1 := [[(m, ob 8 [.int (nI (mN (Prod.fst x))), .ref rn54, .ref rk55, .ref rl56, .ref rs57, .ref rst58, .int (mR (Prod.fst x)), .int (mVt (Prod.fst x)), .int (nI (mSu (Prod.fst x))), .int (nI (mDn (Prod.fst x) + 1)), .int (bI (mLz (Prod.fst x)))])], [(rn54, iA (aC E 0) 5 fn59)], [(rk55, iA (aC E 0) 5 fk60)], [(rl56, ob 9 [.ref la68, .int (lT (mL (Prod.fst x))), .int (lV (mL (Prod.fst x))), .int (nI (lB (mL (Prod.fst x)))), .int (lBT (mL (Prod.fst x))), .ref sp69])], wl61, ws62, w188, wq92, wr, fz, [(n, ob 1 [.ref lm, .ref lb, .ref lr, .int lo, .int nw])], wm]) rfl ?_
              refine g_fl (cs1 := [((m, ob 8 [.int (nI (mN (Prod.fst x))), .ref rn54, .ref rk55, .ref rl56, .ref rs57, .ref rst58, .int (mR (Prod.fst x)), .int (mVt (Prod.fst x)), .int (nI (mSu (Prod.fst x))), .int (nI (mDn (Prod.fst x) + 1)), .int (bI (mLz (Prod.fst x)))]) :: (rn54, iA (aC E 0) 5 fn59) :: (rk55, iA (aC E 0) 5 fk60) :: (((rl56, ob 9 [.ref la68, .int (lT (mL (Prod.fst x))), .int (lV (mL (Prod.fst x))), .int (nI (lB (mL (Prod.fst x)))), .int (lBT (mL (Prod.fst x))), .ref sp69]) :: wl61) ++ (ws62 ++ w188))), wq92, wr, fz, [(n, ob 1 [.ref lm, .ref lb, .ref lr, .int lo, .int nw])], wm]) (by simp only [List.flatten_cons, List.flatten_nil, List.cons_append, List.append_assoc, List.nil_append, List.append_nil]) ?_
              have hM93 : IsMach E fz m (setS (setDn (Prod.fst x) (mDn (Prod.fst x) + 1)) (Prod.fst (sDoes (mS (Prod.fst x)) g.2.2 (rC r) (rK r) (rY r) (rA r) (rB r)))) ((m, ob 8 [.int (nI (mN (Prod.fst x))), .ref rn54, .ref rk55, .ref rl56, .ref rs57, .ref rst58, .int (mR (Prod.fst x)), .int (mVt (Prod.fst x)), .int (nI (mSu (Prod.fst x))), .int (nI (mDn (Prod.fst x) + 1)), .int (bI (mLz (Prod.fst x)))]) :: (rn54, iA (aC E 0) 5 fn59) :: (rk55, iA (aC E 0) 5 fk60) :: (((rl56, ob 9 [.ref la68, .int (lT (mL (Prod.fst x))), .int (lV (mL (Prod.fst x))), .int (nI (lB (mL (Prod.fst x)))), .int (lBT (mL (Prod.fst x))), .ref sp69]) :: wl61) ++ (ws62 ++ w188))) := ⟨_, _, _, _, _, _, _, _, _, _, hn64, ⟨_, _, _, _, hE71, hges72, hsp73, rfl⟩, hV66, ⟨_, h89⟩, rfl⟩
              generalize ((m, ob 8 [.int (nI (mN (Prod.fst x))), .ref rn54, .ref rk55, .ref rl56, .ref rs57, .ref rst58, .int (mR (Prod.fst x)), .int (mVt (Prod.fst x)), .int (nI (mSu (Prod.fst x))), .int (nI (mDn (Prod.fst x) + 1)), .int (bI (mLz (Prod.fst x)))]) :: (rn54, iA (aC E 0) 5 fn59) :: (rk55, iA (aC E 0) 5 fk60) :: (((rl56, ob 9 [.ref la68, .int (lT (mL (Prod.fst x))), .int (lV (mL (Prod.fst x))), .int (nI (lB (mL (Prod.fst x)))), .int (lBT (mL (Prod.fst x))), .ref sp69]) :: wl61) ++ (ws62 ++ w188))) = wk94 at hM93 ⊢
              have h95 : RL E lr (Prod.snd x) wr wq92 := by rw [hst0] at hRL91; exact hRL91
              have h96 : IsMach E fz m (Prod.fst (doStep nw x)) wk94 := by rw [hds]; exact hM93
              have h97 : RL E lr (Prod.snd (doStep nw x)) wr wq92 := by rw [hds]; exact h95
              refine g_goto hX (pc := 115) (tgt := 12) dX2_settle_115 rfl ?_
              refine g_pk [4, 4, 0, 1, 0, 0] rfl ?_
              refine g_cs (cs1 := [[(n, ob 1 [.ref lm, .ref lb, .ref lr, .int lo, .int nw])], wm, wk94, wr, wq92, fz]) rfl ?_
              refine g_lv (lv1 := [(0, .ref n), (1, .ref m)]) [3, 4] rfl ?_
              refine g_widen (kc1 := 0) (ks1 := 0) (by omega) (by omega) ?_
              exact ih1 (doStep nw x) wk94 wq92 (by omega) (hI2) (hG2) (⟨hSt.2.2.trans hx3.1, doStep_Lz.trans hx3.2⟩) h96 h97
            · have c90 := z10n.mp c90_
              refine g_aload_n hX (pc := 91) dX2_settle_91 2 rfl ?_
              refine g_getNm hX (pc := 92) fcX14 (sp_in 6 rfl hz) 0 (by decide) q1118 rfl (v := .int g.2.1) rfl dX2_settle_92 ?_
              refine g_aload_n hX (pc := 95) dX2_settle_95 4 rfl ?_
              refine g_getN hX (pc := 96) fcX9 0 rfl 3 (by decide) q933 rfl (v := .ref rl56) rfl dX2_settle_96 ?_
              refine g_getN hX (pc := 99) fcX10 4 rfl 1 (by decide) q844 rfl (v := .int (lT (mL (Prod.fst x)))) rfl dX2_settle_99 ?_
              refine g_icmp_ne hX (pc := 102) (tgt := 115) dX2_settle_102 rfl (fun c98 => ?_) (fun c98 => ?_)
              · rw [if_neg (fun z => c98 z.2)] at hds
                have hst0 : List.set (Prod.snd x) j r = Prod.snd x := by rw [← (List.getElem?_eq_some_iff.mp hj4).2]; exact List.set_getElem_self _
                refine g_pk [12, 2, 11] rfl ?_
                refine g_cs (cs1 := [(RS E (List.take j rr79)), [(a, ob 10 [.int (nI (rC r)), .ref (aK E (rK r)), .int (nI (rY r)), .int (rA r), .int (rB r), .int (rRes r), .int (rSent r), .int (rAns r), .int (rTimes r)])], (RS E (List.drop (j + 1) rr79)), [(m, ob 8 [.int (nI (mN (Prod.fst x))), .ref rn54, .ref rk55, .ref rl56, .ref rs57, .ref rst58, .int (mR (Prod.fst x)), .int (mVt (Prod.fst x)), .int (nI (mSu (Prod.fst x))), .int (nI (mDn (Prod.fst x) + 1)), .int (bI (mLz (Prod.fst x)))])], w188, wr, [(rl56, ob 9 [.ref la68, .int (lT (mL (Prod.fst x))), .int (lV (mL (Prod.fst x))), .int (nI (lB (mL (Prod.fst x)))), .int (lBT (mL (Prod.fst x))), .ref sp69])], wl61, fz, [(n, ob 1 [.ref lm, .ref lb, .ref lr, .int lo, .int nw])], wm, [(rn54, iA (aC E 0) 5 fn59)], [(rk55, iA (aC E 0) 5 fk60)], ws62]) rfl ?_
                refine g_fl (cs1 := [((RS E (List.take j rr79)) ++ ([(a, ob 10 [.int (nI (rC r)), .ref (aK E (rK r)), .int (nI (rY r)), .int (rA r), .int (rB r), .int (rRes r), .int (rSent r), .int (rAns r), .int (rTimes r)])] ++ (RS E (List.drop (j + 1) rr79)))), [(m, ob 8 [.int (nI (mN (Prod.fst x))), .ref rn54, .ref rk55, .ref rl56, .ref rs57, .ref rst58, .int (mR (Prod.fst x)), .int (mVt (Prod.fst x)), .int (nI (mSu (Prod.fst x))), .int (nI (mDn (Prod.fst x) + 1)), .int (bI (mLz (Prod.fst x)))])], w188, wr, [(rl56, ob 9 [.ref la68, .int (lT (mL (Prod.fst x))), .int (lV (mL (Prod.fst x))), .int (nI (lB (mL (Prod.fst x)))), .int (lBT (mL (Prod.fst x))), .ref sp69])], wl61, fz, [(n, ob 1 [.ref lm, .ref lb, .ref lr, .int lo, .int nw])], wm, [(rn54, iA (aC E 0) 5 fn59)], [(rk55, iA (aC E 0) 5 fk60)], ws62]) (by simp only [List.flatten_cons, List.flatten_nil, List.cons_append, List.append_assoc, List.nil_append, List.append_nil]) ?_
                have hRL99 : RL E lr (List.set (Prod.snd x) j r) wr ((RS E (List.take j rr79)) ++ ([(a, ob 10 [.int (nI (rC r)), .ref (aK E (rK r)), .int (nI (rY r)), .int (rA r), .int (rB r), .int (rRes r), .int (rSent r), .int (rAns r), .int (rTimes r)])] ++ (RS E (List.drop (j + 1) rr79)))) := by rw [← hr80]; exact rl_set (r' := r) hj hA81
                generalize ((RS E (List.take j rr79)) ++ ([(a, ob 10 [.int (nI (rC r)), .ref (aK E (rK r)), .int (nI (rY r)), .int (rA r), .int (rB r), .int (rRes r), .int (rSent r), .int (rAns r), .int (rTimes r)])] ++ (RS E (List.drop (j + 1) rr79)))) = wq100 at hRL99 ⊢
                refine g_pk [1, 8, 8, 3, 3, 6, 1] rfl ?_
                refine g_cs (cs1 := [[(m, ob 8 [.int (nI (mN (Prod.fst x))), .ref rn54, .ref rk55, .ref rl56, .ref rs57, .ref rst58, .int (mR (Prod.fst x)), .int (mVt (Prod.fst x)), .int (nI (mSu (Prod.fst x))), .int (nI (mDn (Prod.fst x) + 1)), .int (bI (mLz (Prod.fst x)))])], [(rn54, iA (aC E 0) 5 fn59)], [(rk55, iA (aC E 0) 5 fk60)], [(rl56, ob 9 [.ref la68, .int (lT (mL (Prod.fst x))), .int (lV (mL (Prod.fst x))), .int (nI (lB (mL (Prod.fst x)))), .int (lBT (mL (Prod.fst x))), .ref sp69])], wl61, ws62, w188, wq100, wr, fz, [(n, ob 1 [.ref lm, .ref lb, .ref lr, .int lo, .int nw])], wm]) rfl ?_
                refine g_fl (cs1 := [((m, ob 8 [.int (nI (mN (Prod.fst x))), .ref rn54, .ref rk55, .ref rl56, .ref rs57, .ref rst58, .int (mR (Prod.fst x)), .int (mVt (Prod.fst x)), .int (nI (mSu (Prod.fst x))), .int (nI (mDn (Prod.fst x) + 1)), .int (bI (mLz (Prod.fst x)))]) :: (rn54, iA (aC E 0) 5 fn59) :: (rk55, iA (aC E 0) 5 fk60) :: (((rl56, ob 9 [.ref la68, .int (lT (mL (Prod.fst x))), .int (lV (mL (Prod.fst x))), .int (nI (lB (mL (Prod.fst x)))), .int (lBT (mL (Prod.fst x))), .ref sp69]) :: wl61) ++ (ws62 ++ w188))), wq100, wr, fz, [(n, ob 1 [.ref lm, .ref lb, .ref lr, .int lo, .int nw])], wm]) (by simp only [List.flatten_cons, List.flatten_nil, List.cons_append, List.append_assoc, List.nil_append, List.append_nil]) ?_
                have hM101 : IsMach E fz m (setS (setDn (Prod.fst x) (mDn (Prod.fst x) + 1)) (Prod.fst (sDoes (mS (Prod.fst x)) g.2.2 (rC r) (rK r) (rY r) (rA r) (rB r)))) ((m, ob 8 [.int (nI (mN (Prod.fst x))), .ref rn54, .ref rk55, .ref rl56, .ref rs57, .ref rst58, .int (mR (Prod.fst x)), .int (mVt (Prod.fst x)), .int (nI (mSu (Prod.fst x))), .int (nI (mDn (Prod.fst x) + 1)), .int (bI (mLz (Prod.fst x)))]) :: (rn54, iA (aC E 0) 5 fn59) :: (rk55, iA (aC E 0) 5 fk60) :: (((rl56, ob 9 [.ref la68, .int (lT (mL (Prod.fst x))), .int (lV (mL (Prod.fst x))), .int (nI (lB (mL (Prod.fst x)))), .int (lBT (mL (Prod.fst x))), .ref sp69]) :: wl61) ++ (ws62 ++ w188))) := ⟨_, _, _, _, _, _, _, _, _, _, hn64, ⟨_, _, _, _, hE71, hges72, hsp73, rfl⟩, hV66, ⟨_, h89⟩, rfl⟩
                generalize ((m, ob 8 [.int (nI (mN (Prod.fst x))), .ref rn54, .ref rk55, .ref rl56, .ref rs57, .ref rst58, .int (mR (Prod.fst x)), .int (mVt (Prod.fst x)), .int (nI (mSu (Prod.fst x))), .int (nI (mDn (Prod.fst x) + 1)), .int (bI (mLz (Prod.fst x)))]) :: (rn54, iA (aC E 0) 5 fn59) :: (rk55, iA (aC E 0) 5 fk60) :: (((rl56, ob 9 [.ref la68, .int (lT (mL (Prod.fst x))), .int (lV (mL (Prod.fst x))), .int (nI (lB (mL (Prod.fst x)))), .int (lBT (mL (Prod.fst x))), .ref sp69]) :: wl61) ++ (ws62 ++ w188))) = wk102 at hM101 ⊢
                have h103 : RL E lr (Prod.snd x) wr wq100 := by rw [hst0] at hRL99; exact hRL99
                have h104 : IsMach E fz m (Prod.fst (doStep nw x)) wk102 := by rw [hds]; exact hM101
                have h105 : RL E lr (Prod.snd (doStep nw x)) wr wq100 := by rw [hds]; exact h103
                refine g_goto hX (pc := 115) (tgt := 12) dX2_settle_115 rfl ?_
                refine g_pk [4, 4, 0, 1, 0, 0] rfl ?_
                refine g_cs (cs1 := [[(n, ob 1 [.ref lm, .ref lb, .ref lr, .int lo, .int nw])], wm, wk102, wr, wq100, fz]) rfl ?_
                refine g_lv (lv1 := [(0, .ref n), (1, .ref m)]) [3, 4] rfl ?_
                refine g_widen (kc1 := 0) (ks1 := 0) (by omega) (by omega) ?_
                exact ih1 (doStep nw x) wk102 wq100 (by omega) (hI2) (hG2) (⟨hSt.2.2.trans hx3.1, doStep_Lz.trans hx3.2⟩) h104 h105
              · refine g_aload_n hX (pc := 105) dX2_settle_105 1 rfl ?_
                refine g_iload hX (pc := 106) dX2_settle_106 0 rfl ?_
                refine g_aload_n hX (pc := 108) dX2_settle_108 3 rfl ?_
                refine g_get hX (pc := 109) fcX2 7 rfl 4 (by decide) q163 rfl (v := .int nw) rfl dX2_settle_109 ?_
                refine g_callV hX (pc := 112) kX12_answer (mt_Request_answer E l a (nI (rC r)) (rK r) (nI (rY r)) (rA r) (rB r) (rRes r) (rSent r) (rAns r) (rTimes r) (Prod.snd (sDoes (mS (Prod.fst x)) g.2.2 (rC r) (rK r) (rY r) (rA r) (rB r))) nw) q1170 fcX12 (sp_mem (i := 2) rfl) [2] rfl rfl rfl (Nat.le_of_ble_eq_true rfl) (Nat.le_of_ble_eq_true rfl) (Nat.le_of_ble_eq_true rfl) (by omega) (by omega) dX2_settle_112 (fun v w1 hp => ?_)
                obtain ⟨rfl, rfl⟩ := hp
                refine g_nrm (cs1 := [[(a, ob 10 [.int (nI (rC r)), .ref (aK E (rK r)), .int (nI (rY r)), .int (rA r), .int (rB r), .int (if (rAns r) = (-1) ∧ ¬ (Prod.snd (sDoes (mS (Prod.fst x)) g.2.2 (rC r) (rK r) (rY r) (rA r) (rB r))) = (-1) then (Prod.snd (sDoes (mS (Prod.fst x)) g.2.2 (rC r) (rK r) (rY r) (rA r) (rB r))) else (rRes r)), .int (rSent r), .int (if (rAns r) = (-1) ∧ ¬ (Prod.snd (sDoes (mS (Prod.fst x)) g.2.2 (rC r) (rK r) (rY r) (rA r) (rB r))) = (-1) then nw else (rAns r)), .int (rTimes r)])], [(m, ob 8 [.int (nI (mN (Prod.fst x))), .ref rn54, .ref rk55, .ref rl56, .ref rs57, .ref rst58, .int (mR (Prod.fst x)), .int (mVt (Prod.fst x)), .int (nI (mSu (Prod.fst x))), .int (nI (mDn (Prod.fst x) + 1)), .int (bI (mLz (Prod.fst x)))])], w188, wr, [(rl56, ob 9 [.ref la68, .int (lT (mL (Prod.fst x))), .int (lV (mL (Prod.fst x))), .int (nI (lB (mL (Prod.fst x)))), .int (lBT (mL (Prod.fst x))), .ref sp69])], wl61, fz, [(n, ob 1 [.ref lm, .ref lb, .ref lr, .int lo, .int nw])], wm, [(rn54, iA (aC E 0) 5 fn59)], [(rk55, iA (aC E 0) 5 fk60)], ws62, (RS E (List.take j rr79)), (RS E (List.drop (j + 1) rr79))]) (st1 := []) rfl rfl ?_
                rw [if_pos ⟨c90, c98⟩] at hds
                refine g_pk [12, 0, 11] rfl ?_
                refine g_cs (cs1 := [(RS E (List.take j rr79)), [(a, ob 10 [.int (nI (rC r)), .ref (aK E (rK r)), .int (nI (rY r)), .int (rA r), .int (rB r), .int (if (rAns r) = (-1) ∧ ¬ (Prod.snd (sDoes (mS (Prod.fst x)) g.2.2 (rC r) (rK r) (rY r) (rA r) (rB r))) = (-1) then (Prod.snd (sDoes (mS (Prod.fst x)) g.2.2 (rC r) (rK r) (rY r) (rA r) (rB r))) else (rRes r)), .int (rSent r), .int (if (rAns r) = (-1) ∧ ¬ (Prod.snd (sDoes (mS (Prod.fst x)) g.2.2 (rC r) (rK r) (rY r) (rA r) (rB r))) = (-1) then nw else (rAns r)), .int (rTimes r)])], (RS E (List.drop (j + 1) rr79)), [(m, ob 8 [.int (nI (mN (Prod.fst x))), .ref rn54, .ref rk55, .ref rl56, .ref rs57, .ref rst58, .int (mR (Prod.fst x)), .int (mVt (Prod.fst x)), .int (nI (mSu (Prod.fst x))), .int (nI (mDn (Prod.fst x) + 1)), .int (bI (mLz (Prod.fst x)))])], w188, wr, [(rl56, ob 9 [.ref la68, .int (lT (mL (Prod.fst x))), .int (lV (mL (Prod.fst x))), .int (nI (lB (mL (Prod.fst x)))), .int (lBT (mL (Prod.fst x))), .ref sp69])], wl61, fz, [(n, ob 1 [.ref lm, .ref lb, .ref lr, .int lo, .int nw])], wm, [(rn54, iA (aC E 0) 5 fn59)], [(rk55, iA (aC E 0) 5 fk60)], ws62]) rfl ?_
                refine g_fl (cs1 := [((RS E (List.take j rr79)) ++ ([(a, ob 10 [.int (nI (rC r)), .ref (aK E (rK r)), .int (nI (rY r)), .int (rA r), .int (rB r), .int (if (rAns r) = (-1) ∧ ¬ (Prod.snd (sDoes (mS (Prod.fst x)) g.2.2 (rC r) (rK r) (rY r) (rA r) (rB r))) = (-1) then (Prod.snd (sDoes (mS (Prod.fst x)) g.2.2 (rC r) (rK r) (rY r) (rA r) (rB r))) else (rRes r)), .int (rSent r), .int (if (rAns r) = (-1) ∧ ¬ (Prod.snd (sDoes (mS (Prod.fst x)) g.2.2 (rC r) (rK r) (rY r) (rA r) (rB r))) = (-1) then nw else (rAns r)), .int (rTimes r)])] ++ (RS E (List.drop (j + 1) rr79)))), [(m, ob 8 [.int (nI (mN (Prod.fst x))), .ref rn54, .ref rk55, .ref rl56, .ref rs57, .ref rst58, .int (mR (Prod.fst x)), .int (mVt (Prod.fst x)), .int (nI (mSu (Prod.fst x))), .int (nI (mDn (Prod.fst x) + 1)), .int (bI (mLz (Prod.fst x)))])], w188, wr, [(rl56, ob 9 [.ref la68, .int (lT (mL (Prod.fst x))), .int (lV (mL (Prod.fst x))), .int (nI (lB (mL (Prod.fst x)))), .int (lBT (mL (Prod.fst x))), .ref sp69])], wl61, fz, [(n, ob 1 [.ref lm, .ref lb, .ref lr, .int lo, .int nw])], wm, [(rn54, iA (aC E 0) 5 fn59)], [(rk55, iA (aC E 0) 5 fk60)], ws62]) (by simp only [List.flatten_cons, List.flatten_nil, List.cons_append, List.append_assoc, List.nil_append, List.append_nil]) ?_
                have hRL106 : RL E lr (List.set (Prod.snd x) j (rAnswer r (Prod.snd (sDoes (mS (Prod.fst x)) g.2.2 (rC r) (rK r) (rY r) (rA r) (rB r))) nw)) wr ((RS E (List.take j rr79)) ++ ([(a, ob 10 [.int (nI (rC r)), .ref (aK E (rK r)), .int (nI (rY r)), .int (rA r), .int (rB r), .int (if (rAns r) = (-1) ∧ ¬ (Prod.snd (sDoes (mS (Prod.fst x)) g.2.2 (rC r) (rK r) (rY r) (rA r) (rB r))) = (-1) then (Prod.snd (sDoes (mS (Prod.fst x)) g.2.2 (rC r) (rK r) (rY r) (rA r) (rB r))) else (rRes r)), .int (rSent r), .int (if (rAns r) = (-1) ∧ ¬ (Prod.snd (sDoes (mS (Prod.fst x)) g.2.2 (rC r) (rK r) (rY r) (rA r) (rB r))) = (-1) then nw else (rAns r)), .int (rTimes r)])] ++ (RS E (List.drop (j + 1) rr79)))) := by rw [← hr80]; exact rl_set (r' := (rAnswer r (Prod.snd (sDoes (mS (Prod.fst x)) g.2.2 (rC r) (rK r) (rY r) (rA r) (rB r))) nw)) hj hA81
                generalize ((RS E (List.take j rr79)) ++ ([(a, ob 10 [.int (nI (rC r)), .ref (aK E (rK r)), .int (nI (rY r)), .int (rA r), .int (rB r), .int (if (rAns r) = (-1) ∧ ¬ (Prod.snd (sDoes (mS (Prod.fst x)) g.2.2 (rC r) (rK r) (rY r) (rA r) (rB r))) = (-1) then (Prod.snd (sDoes (mS (Prod.fst x)) g.2.2 (rC r) (rK r) (rY r) (rA r) (rB r))) else (rRes r)), .int (rSent r), .int (if (rAns r) = (-1) ∧ ¬ (Prod.snd (sDoes (mS (Prod.fst x)) g.2.2 (rC r) (rK r) (rY r) (rA r) (rB r))) = (-1) then nw else (rAns r)), .int (rTimes r)])] ++ (RS E (List.drop (j + 1) rr79)))) = wq107 at hRL106 ⊢
                refine g_pk [1, 8, 8, 3, 3, 6, 1] rfl ?_
                refine g_cs (cs1 := [[(m, ob 8 [.int (nI (mN (Prod.fst x))), .ref rn54, .ref rk55, .ref rl56, .ref rs57, .ref rst58, .int (mR (Prod.fst x)), .int (mVt (Prod.fst x)), .int (nI (mSu (Prod.fst x))), .int (nI (mDn (Prod.fst x) + 1)), .int (bI (mLz (Prod.fst x)))])], [(rn54, iA (aC E 0) 5 fn59)], [(rk55, iA (aC E 0) 5 fk60)], [(rl56, ob 9 [.ref la68, .int (lT (mL (Prod.fst x))), .int (lV (mL (Prod.fst x))), .int (nI (lB (mL (Prod.fst x)))), .int (lBT (mL (Prod.fst x))), .ref sp69])], wl61, ws62, w188, wq107, wr, fz, [(n, ob 1 [.ref lm, .ref lb, .ref lr, .int lo, .int nw])], wm]) rfl ?_
                refine g_fl (cs1 := [((m, ob 8 [.int (nI (mN (Prod.fst x))), .ref rn54, .ref rk55, .ref rl56, .ref rs57, .ref rst58, .int (mR (Prod.fst x)), .int (mVt (Prod.fst x)), .int (nI (mSu (Prod.fst x))), .int (nI (mDn (Prod.fst x) + 1)), .int (bI (mLz (Prod.fst x)))]) :: (rn54, iA (aC E 0) 5 fn59) :: (rk55, iA (aC E 0) 5 fk60) :: (((rl56, ob 9 [.ref la68, .int (lT (mL (Prod.fst x))), .int (lV (mL (Prod.fst x))), .int (nI (lB (mL (Prod.fst x)))), .int (lBT (mL (Prod.fst x))), .ref sp69]) :: wl61) ++ (ws62 ++ w188))), wq107, wr, fz, [(n, ob 1 [.ref lm, .ref lb, .ref lr, .int lo, .int nw])], wm]) (by simp only [List.flatten_cons, List.flatten_nil, List.cons_append, List.append_assoc, List.nil_append, List.append_nil]) ?_
                have hM108 : IsMach E fz m (setS (setDn (Prod.fst x) (mDn (Prod.fst x) + 1)) (Prod.fst (sDoes (mS (Prod.fst x)) g.2.2 (rC r) (rK r) (rY r) (rA r) (rB r)))) ((m, ob 8 [.int (nI (mN (Prod.fst x))), .ref rn54, .ref rk55, .ref rl56, .ref rs57, .ref rst58, .int (mR (Prod.fst x)), .int (mVt (Prod.fst x)), .int (nI (mSu (Prod.fst x))), .int (nI (mDn (Prod.fst x) + 1)), .int (bI (mLz (Prod.fst x)))]) :: (rn54, iA (aC E 0) 5 fn59) :: (rk55, iA (aC E 0) 5 fk60) :: (((rl56, ob 9 [.ref la68, .int (lT (mL (Prod.fst x))), .int (lV (mL (Prod.fst x))), .int (nI (lB (mL (Prod.fst x)))), .int (lBT (mL (Prod.fst x))), .ref sp69]) :: wl61) ++ (ws62 ++ w188))) := ⟨_, _, _, _, _, _, _, _, _, _, hn64, ⟨_, _, _, _, hE71, hges72, hsp73, rfl⟩, hV66, ⟨_, h89⟩, rfl⟩
                generalize ((m, ob 8 [.int (nI (mN (Prod.fst x))), .ref rn54, .ref rk55, .ref rl56, .ref rs57, .ref rst58, .int (mR (Prod.fst x)), .int (mVt (Prod.fst x)), .int (nI (mSu (Prod.fst x))), .int (nI (mDn (Prod.fst x) + 1)), .int (bI (mLz (Prod.fst x)))]) :: (rn54, iA (aC E 0) 5 fn59) :: (rk55, iA (aC E 0) 5 fk60) :: (((rl56, ob 9 [.ref la68, .int (lT (mL (Prod.fst x))), .int (lV (mL (Prod.fst x))), .int (nI (lB (mL (Prod.fst x)))), .int (lBT (mL (Prod.fst x))), .ref sp69]) :: wl61) ++ (ws62 ++ w188))) = wk109 at hM108 ⊢
                have h110 : IsMach E fz m (Prod.fst (doStep nw x)) wk109 := by rw [hds]; exact hM108
                have h111 : RL E lr (Prod.snd (doStep nw x)) wr wq107 := by rw [hds]; exact hRL106
                refine g_goto hX (pc := 115) (tgt := 12) dX2_settle_115 rfl ?_
                refine g_pk [4, 4, 0, 1, 0, 0] rfl ?_
                refine g_cs (cs1 := [[(n, ob 1 [.ref lm, .ref lb, .ref lr, .int lo, .int nw])], wm, wk109, wr, wq107, fz]) rfl ?_
                refine g_lv (lv1 := [(0, .ref n), (1, .ref m)]) [3, 4] rfl ?_
                refine g_widen (kc1 := 0) (ks1 := 0) (by omega) (by omega) ?_
                exact ih1 (doStep nw x) wk109 wq107 (by omega) (hI2) (hG2) (⟨hSt.2.2.trans hx3.1, doStep_Lz.trans hx3.2⟩) h110 h111
    refine g_pk [1, 1, 0, 0, 0, 0] rfl ?_
    refine g_cs (cs1 := [[(n, ob 1 [.ref lm, .ref lb, .ref lr, .int lo, .int nw])], wm, wk, wr, wq, fz]) rfl ?_
    refine g_widen (kc1 := 0) (ks1 := 0) (by omega) (by omega) ?_
    exact lp5 ((mSu (sureOf (List.length mas) M) - mDn (Prod.fst (en3 (sureOf (List.length mas) M) R))) + 1) (en3 (sureOf (List.length mas) M) R) wk wq (Nat.lt_succ_self _) (hI0) (rfl) (⟨rfl, rfl⟩) (h4) (hRq)
  · have c3 := z10n.mp c3_
    have hM1 : (sureOf (List.length mas) M) = mSure (List.length mas) M := if_pos c3
    refine g_aload_n hX (pc := 7) dX2_settle_7 0 rfl ?_
    refine g_aload_n hX (pc := 8) dX2_settle_8 1 rfl ?_
    refine g_callV hX (pc := 9) kX2_sureIf (mt_Net_sureIf E l n lm lb lr lo nw mas wm m M wk fz hA (o2) hM (by omega) (by omega) (fun k hk => by have := o11 k hk; omega) (by omega) (by omega)) q1143 fcX2 (sp_mem (i := 1) rfl) [1, 1, 0, 2] rfl rfl rfl (Nat.le_of_ble_eq_true rfl) (Nat.le_of_ble_eq_true rfl) (Nat.le_of_ble_eq_true rfl) (by omega) (by omega) dX2_settle_9 (fun v w1 hp => ?_)
    obtain ⟨w1112, h113, rfl, rfl⟩ := hp
    refine g_nrm (cs1 := [[(n, ob 1 [.ref lm, .ref lb, .ref lr, .int lo, .int nw])], wm, w1112, fz, wr, wq]) (st1 := []) rfl rfl ?_
    have h114 : IsMach E fz m (sureOf (List.length mas) M) w1112 := by rw [hM1]; exact h113
    obtain ⟨hI0, hen⟩ : dInv (sureOf (List.length mas) M) (List.length R) (en3 (sureOf (List.length mas) M) R) ∧ enOK (List.length R) (lE (mL (sureOf (List.length mas) M))) := sureOf_inv hok1 hrq
    have hs1 : lLast (mL (sureOf (List.length mas) M)) ≤ b ∧ mSu (sureOf (List.length mas) M) ≤ b ∧ lB (mL (sureOf (List.length mas) M)) ≤ mDn (sureOf (List.length mas) M) := sureOf_b hok1
    have lp115 : ∀ (F2 : Nat) (x : PM × List PR) (wkL : va_W) (wqL : va_W), mSu (sureOf (List.length mas) M) - mDn (Prod.fst x) < F2 → (dInv (sureOf (List.length mas) M) (List.length R) x) → (doAll nw x = (doAll nw (en3 (sureOf (List.length mas) M) R))) → (mR (Prod.fst x) = mR (sureOf (List.length mas) M) ∧ mLz (Prod.fst x) = mLz (sureOf (List.length mas) M)) → IsMach E fz m (Prod.fst x) wkL → RL E lr (Prod.snd x) wr wqL → G E l X [[(n, ob 1 [.ref lm, .ref lb, .ref lr, .int lo, .int nw])], wm, wkL, wr, wqL, fz] 0 0 12 [(0, .ref n), (1, .ref m)] [] := by
      intro F2
      induction F2 with
      | zero =>
        intro x wkL wqL hF hI hG hx3 hML hRL
        exact absurd hF (Nat.not_lt_zero _)
      | succ F2 ih2 =>
        intro x wkL wqL hF hI hG hx3 hML hRL
        refine g_aload_n hX (pc := 12) dX2_settle_12 1 rfl ?_
        obtain ⟨rn116, rk117, rl118, rs119, rst120, la121, sp122, hpk123, hpl124⟩ := hML.peek
        refine g_getNm hX (pc := 13) fcX9 (sp_in 2 rfl hpk123) 8 (by decide) q945 rfl (v := .int (nI (mSu (Prod.fst x)))) rfl dX2_settle_13 ?_
        refine g_aload_n hX (pc := 16) dX2_settle_16 1 rfl ?_
        refine g_getNm hX (pc := 17) fcX9 (sp_in 2 rfl hpk123) 9 (by decide) q947 rfl (v := .int (nI (mDn (Prod.fst x)))) rfl dX2_settle_17 ?_
        refine g_icmp_le hX (pc := 20) (tgt := 118) dX2_settle_20 rfl (fun c125 => ?_) (fun c125 => ?_)
        · obtain ⟨⟨i1, i2, i3⟩, ⟨i4, i5, i6⟩, i7, i8⟩ := hI
          have d1 : mSu (Prod.fst x) ≤ mDn (Prod.fst x) := (nI_leI (by omega) (by omega)).mp c125
          rw [doGo_e d1] at hG
          obtain ⟨rn126, rk127, rl128, rs129, rst130, la131, sp132, hpk133, hpl134⟩ := hML.peek
          refine g_aload_n hX (pc := 118) dX2_settle_118 1 rfl ?_
          refine g_getNm hX (pc := 119) fcX9 (sp_in 2 rfl hpk133) 10 (by decide) q949 rfl (v := .int (bI (mLz (Prod.fst x)))) rfl dX2_settle_119 ?_
          refine g_if_ne hX (pc := 122) (tgt := 129) dX2_settle_122 rfl (fun c135_ => ?_) (fun c135_ => ?_)
          · have c135 := mt bI_0.mpr c135_
            have hfin : (settle (List.length mas) nw M R) = x := by
              unfold settle
              rw [show doAll nw (sureOf (List.length mas) M, R) = x from hG.symm]
              show (mSave _, _) = _
              unfold mSave
              rw [if_pos (by simpa using c135)]
            refine g_vret hX (pc := 129) hR ?_ (by omega) (by omega) dX2_settle_129
            rw [hfin]
            exact ⟨_, _, hML, hRL, rfl, rfl⟩
          · have c135 := bI_0.mp c135_
            obtain ⟨rn136, rk137, rl138, rs139, rst140, fn141, fk142, wl143, ws144, wst145, hn146, hL147, hV148, hS149, rfl⟩ := hML
            obtain ⟨la150, sp151, ges152, wl143, hE153, hges154, hsp155, rfl⟩ := hL147
            refine g_fl (cs1 := [[(n, ob 1 [.ref lm, .ref lb, .ref lr, .int lo, .int nw])], wm, [(m, ob 8 [.int (nI (mN (Prod.fst x))), .ref rn136, .ref rk137, .ref rl138, .ref rs139, .ref rst140, .int (mR (Prod.fst x)), .int (mVt (Prod.fst x)), .int (nI (mSu (Prod.fst x))), .int (nI (mDn (Prod.fst x))), .int (bI (mLz (Prod.fst x)))])], [(rn136, iA (aC E 0) 5 fn141)], [(rk137, iA (aC E 0) 5 fk142)], [(rl138, ob 9 [.ref la150, .int (lT (mL (Prod.fst x))), .int (lV (mL (Prod.fst x))), .int (nI (lB (mL (Prod.fst x)))), .int (lBT (mL (Prod.fst x))), .ref sp151])], wl143, ws144, wst145, wr, wqL, fz]) (by simp only [List.flatten_cons, List.flatten_nil, List.cons_append, List.append_assoc, List.nil_append, List.append_nil]) ?_
            have hl_ges152 : List.length ges152 = List.length (lE (mL (Prod.fst x))) := by rw [← hges154, List.length_map]
            have hsv : List.length ges152 ≤ 33 := by
              have h1 : lLast (mL (Prod.fst x)) = lB (mL (Prod.fst x)) + (lE (mL (Prod.fst x))).length := rfl
              have h2 : lLast (mL (Prod.fst x)) = lLast (mL (sureOf (List.length mas) M)) := by rw [i1]
              omega
            have hfl := fl_le33 hsv
            refine g_aload_n hX (pc := 125) dX2_settle_125 1 rfl ?_
            refine g_callV hX (pc := 126) kX9_save (mt_Machine_save E l m (nI (mN (Prod.fst x))) rn136 rk137 rl138 rs139 rst140 (mR (Prod.fst x)) (mVt (Prod.fst x)) (nI (mSu (Prod.fst x))) (nI (mDn (Prod.fst x))) (bI (mLz (Prod.fst x))) la150 (lT (mL (Prod.fst x))) (lV (mL (Prod.fst x))) (lB (mL (Prod.fst x))) (lBT (mL (Prod.fst x))) sp151 fz ges152 wl143 hE153 (by omega)) q1175 fcX9 (sp_mem (i := 2) rfl) [2, 4, 4, 8] rfl rfl rfl (Nat.le_of_ble_eq_true rfl) (Nat.le_of_ble_eq_true rfl) (Nat.le_of_ble_eq_true rfl) (by omega) (by omega) dX2_settle_126 (fun v w1 hp => ?_)
            obtain ⟨q156, lb157, w1158, h159, rfl, rfl⟩ := hp
            refine g_nrm (cs1 := [[(m, ob 8 [.int (nI (mN (Prod.fst x))), .ref rn136, .ref rk137, .ref rl138, .ref q156, .ref rst140, .int (mR (Prod.fst x)), .int (mVt (Prod.fst x)), .int (nI (mSu (Prod.fst x))), .int (nI (mDn (Prod.fst x))), .int (bI (mLz (Prod.fst x)))])], [(q156, ob 9 [.ref lb157, .int (lT (mL (Prod.fst x))), .int (lV (mL (Prod.fst x))), .int (nI (lB (mL (Prod.fst x)))), .int (lBT (mL (Prod.fst x))), .ref sp151])], w1158, [(rl138, ob 9 [.ref la150, .int (lT (mL (Prod.fst x))), .int (lV (mL (Prod.fst x))), .int (nI (lB (mL (Prod.fst x)))), .int (lBT (mL (Prod.fst x))), .ref sp151])], wl143, fz, [(n, ob 1 [.ref lm, .ref lb, .ref lr, .int lo, .int nw])], wm, [(rn136, iA (aC E 0) 5 fn141)], [(rk137, iA (aC E 0) 5 fk142)], ws144, wst145, wr, wqL]) (st1 := []) rfl rfl ?_
            refine g_drop (cs1 := [[(m, ob 8 [.int (nI (mN (Prod.fst x))), .ref rn136, .ref rk137, .ref rl138, .ref q156, .ref rst140, .int (mR (Prod.fst x)), .int (mVt (Prod.fst x)), .int (nI (mSu (Prod.fst x))), .int (nI (mDn (Prod.fst x))), .int (bI (mLz (Prod.fst x)))])], [(q156, ob 9 [.ref lb157, .int (lT (mL (Prod.fst x))), .int (lV (mL (Prod.fst x))), .int (nI (lB (mL (Prod.fst x)))), .int (lBT (mL (Prod.fst x))), .ref sp151])], w1158, [(rl138, ob 9 [.ref la150, .int (lT (mL (Prod.fst x))), .int (lV (mL (Prod.fst x))), .int (nI (lB (mL (Prod.fst x)))), .int (lBT (mL (Prod.fst x))), .ref sp151])], wl143, fz, [(n, ob 1 [.ref lm, .ref lb, .ref lr, .int lo, .int nw])], wm, [(rn136, iA (aC E 0) 5 fn141)], [(rk137, iA (aC E 0) 5 fk142)], wst145, wr, wqL]) [10] rfl ?_
            refine g_pk [1, 1] rfl ?_
            refine g_cs (cs1 := [[(q156, ob 9 [.ref lb157, .int (lT (mL (Prod.fst x))), .int (lV (mL (Prod.fst x))), .int (nI (lB (mL (Prod.fst x)))), .int (lBT (mL (Prod.fst x))), .ref sp151])], w1158, [(m, ob 8 [.int (nI (mN (Prod.fst x))), .ref rn136, .ref rk137, .ref rl138, .ref q156, .ref rst140, .int (mR (Prod.fst x)), .int (mVt (Prod.fst x)), .int (nI (mSu (Prod.fst x))), .int (nI (mDn (Prod.fst x))), .int (bI (mLz (Prod.fst x)))])], [(rl138, ob 9 [.ref la150, .int (lT (mL (Prod.fst x))), .int (lV (mL (Prod.fst x))), .int (nI (lB (mL (Prod.fst x)))), .int (lBT (mL (Prod.fst x))), .ref sp151])], wl143, fz, [(n, ob 1 [.ref lm, .ref lb, .ref lr, .int lo, .int nw])], wm, [(rn136, iA (aC E 0) 5 fn141)], [(rk137, iA (aC E 0) 5 fk142)], wst145, wr, wqL]) rfl ?_
            refine g_fl (cs1 := [((q156, ob 9 [.ref lb157, .int (lT (mL (Prod.fst x))), .int (lV (mL (Prod.fst x))), .int (nI (lB (mL (Prod.fst x)))), .int (lBT (mL (Prod.fst x))), .ref sp151]) :: (w1158)), [(m, ob 8 [.int (nI (mN (Prod.fst x))), .ref rn136, .ref rk137, .ref rl138, .ref q156, .ref rst140, .int (mR (Prod.fst x)), .int (mVt (Prod.fst x)), .int (nI (mSu (Prod.fst x))), .int (nI (mDn (Prod.fst x))), .int (bI (mLz (Prod.fst x)))])], [(rl138, ob 9 [.ref la150, .int (lT (mL (Prod.fst x))), .int (lV (mL (Prod.fst x))), .int (nI (lB (mL (Prod.fst x)))), .int (lBT (mL (Prod.fst x))), .ref sp151])], wl143, fz, [(n, ob 1 [.ref lm, .ref lb, .ref lr, .int lo, .int nw])], wm, [(rn136, iA (aC E 0) 5 fn141)], [(rk137, iA (aC E 0) 5 fk142)], wst145, wr, wqL]) (by simp only [List.flatten_cons, List.flatten_nil, List.cons_append, List.append_assoc, List.nil_append, List.append_nil]) ?_
            have hL160 : IsLog E fz q156 (mL (Prod.fst x)) ((q156, ob 9 [.ref lb157, .int (lT (mL (Prod.fst x))), .int (lV (mL (Prod.fst x))), .int (nI (lB (mL (Prod.fst x)))), .int (lBT (mL (Prod.fst x))), .ref sp151]) :: (w1158)) := ⟨_, _, _, _, h159, hges154, hsp155, rfl⟩
            generalize ((q156, ob 9 [.ref lb157, .int (lT (mL (Prod.fst x))), .int (lV (mL (Prod.fst x))), .int (nI (lB (mL (Prod.fst x)))), .int (lBT (mL (Prod.fst x))), .ref sp151]) :: (w1158)) = ws161 at hL160 ⊢
            refine g_pk [1, 6, 6, 1, 1, 0, 3] rfl ?_
            refine g_cs (cs1 := [[(m, ob 8 [.int (nI (mN (Prod.fst x))), .ref rn136, .ref rk137, .ref rl138, .ref q156, .ref rst140, .int (mR (Prod.fst x)), .int (mVt (Prod.fst x)), .int (nI (mSu (Prod.fst x))), .int (nI (mDn (Prod.fst x))), .int (bI (mLz (Prod.fst x)))])], [(rn136, iA (aC E 0) 5 fn141)], [(rk137, iA (aC E 0) 5 fk142)], [(rl138, ob 9 [.ref la150, .int (lT (mL (Prod.fst x))), .int (lV (mL (Prod.fst x))), .int (nI (lB (mL (Prod.fst x)))), .int (lBT (mL (Prod.fst x))), .ref sp151])], wl143, ws161, wst145, fz, [(n, ob 1 [.ref lm, .ref lb, .ref lr, .int lo, .int nw])], wm, wr, wqL]) rfl ?_
            refine g_fl (cs1 := [((m, ob 8 [.int (nI (mN (Prod.fst x))), .ref rn136, .ref rk137, .ref rl138, .ref q156, .ref rst140, .int (mR (Prod.fst x)), .int (mVt (Prod.fst x)), .int (nI (mSu (Prod.fst x))), .int (nI (mDn (Prod.fst x))), .int (bI (mLz (Prod.fst x)))]) :: (rn136, iA (aC E 0) 5 fn141) :: (rk137, iA (aC E 0) 5 fk142) :: (((rl138, ob 9 [.ref la150, .int (lT (mL (Prod.fst x))), .int (lV (mL (Prod.fst x))), .int (nI (lB (mL (Prod.fst x)))), .int (lBT (mL (Prod.fst x))), .ref sp151]) :: wl143) ++ (ws161 ++ wst145))), fz, [(n, ob 1 [.ref lm, .ref lb, .ref lr, .int lo, .int nw])], wm, wr, wqL]) (by simp only [List.flatten_cons, List.flatten_nil, List.cons_append, List.append_assoc, List.nil_append, List.append_nil]) ?_
            have hM162 : IsMach E fz m (setV (Prod.fst x) (mL (Prod.fst x))) ((m, ob 8 [.int (nI (mN (Prod.fst x))), .ref rn136, .ref rk137, .ref rl138, .ref q156, .ref rst140, .int (mR (Prod.fst x)), .int (mVt (Prod.fst x)), .int (nI (mSu (Prod.fst x))), .int (nI (mDn (Prod.fst x))), .int (bI (mLz (Prod.fst x)))]) :: (rn136, iA (aC E 0) 5 fn141) :: (rk137, iA (aC E 0) 5 fk142) :: (((rl138, ob 9 [.ref la150, .int (lT (mL (Prod.fst x))), .int (lV (mL (Prod.fst x))), .int (nI (lB (mL (Prod.fst x)))), .int (lBT (mL (Prod.fst x))), .ref sp151]) :: wl143) ++ (ws161 ++ wst145))) := ⟨_, _, _, _, _, _, _, _, _, _, hn146, ⟨_, _, _, _, hE153, hges154, hsp155, rfl⟩, hL160, hS149, rfl⟩
            generalize ((m, ob 8 [.int (nI (mN (Prod.fst x))), .ref rn136, .ref rk137, .ref rl138, .ref q156, .ref rst140, .int (mR (Prod.fst x)), .int (mVt (Prod.fst x)), .int (nI (mSu (Prod.fst x))), .int (nI (mDn (Prod.fst x))), .int (bI (mLz (Prod.fst x)))]) :: (rn136, iA (aC E 0) 5 fn141) :: (rk137, iA (aC E 0) 5 fk142) :: (((rl138, ob 9 [.ref la150, .int (lT (mL (Prod.fst x))), .int (lV (mL (Prod.fst x))), .int (nI (lB (mL (Prod.fst x)))), .int (lBT (mL (Prod.fst x))), .ref sp151]) :: wl143) ++ (ws161 ++ wst145))) = wk163 at hM162 ⊢
            have hfin : (settle (List.length mas) nw M R) = en3 (setV (Prod.fst x) (mL (Prod.fst x))) (Prod.snd x) := by
              unfold settle
              rw [show doAll nw (sureOf (List.length mas) M, R) = x from hG.symm]
              show (mSave _, _) = _
              unfold mSave
              rw [if_neg (by rw [c135]; exact Bool.false_ne_true)]
            refine g_pk [2, 2, 0, 1, 1, 0] rfl ?_
            refine g_cs (cs1 := [[(n, ob 1 [.ref lm, .ref lb, .ref lr, .int lo, .int nw])], wm, wk163, wr, wqL, fz]) rfl ?_
            refine g_vret hX (pc := 129) hR ?_ (by omega) (by omega) dX2_settle_129
            rw [hfin]
            exact ⟨_, _, hM162, hRL, rfl, rfl⟩
        · obtain ⟨⟨i1, i2, i3⟩, ⟨i4, i5, i6⟩, i7, i8⟩ := hI
          have d1 : mDn (Prod.fst x) < mSu (Prod.fst x) := (nI_ltI (by omega) (by omega)).mp (Int32.not_le.mp c125)
          have hSt := doStep_Su (now := nw) (x := x)
          have hI : dInv (sureOf (List.length mas) M) (List.length R) x := ⟨⟨i1, i2, i3⟩, ⟨i4, i5, i6⟩, i7, i8⟩
          have hI2 := doStep_inv (now := nw) hI (by omega) hen
          have hG2 : doAll nw (doStep nw x) = (doAll nw (en3 (sureOf (List.length mas) M) R)) := (doGo_s d1 hSt.1 hSt.2.1).trans hG
          obtain ⟨rn164, rk165, rl166, rs167, rst168, fn169, fk170, wl171, ws172, wst173, hn174, hL175, hV176, hS177, rfl⟩ := hML
          obtain ⟨la178, sp179, ges180, wl171, hE181, hges182, hsp183, rfl⟩ := hL175
          refine g_fl (cs1 := [[(n, ob 1 [.ref lm, .ref lb, .ref lr, .int lo, .int nw])], wm, [(m, ob 8 [.int (nI (mN (Prod.fst x))), .ref rn164, .ref rk165, .ref rl166, .ref rs167, .ref rst168, .int (mR (Prod.fst x)), .int (mVt (Prod.fst x)), .int (nI (mSu (Prod.fst x))), .int (nI (mDn (Prod.fst x))), .int (bI (mLz (Prod.fst x)))])], [(rn164, iA (aC E 0) 5 fn169)], [(rk165, iA (aC E 0) 5 fk170)], [(rl166, ob 9 [.ref la178, .int (lT (mL (Prod.fst x))), .int (lV (mL (Prod.fst x))), .int (nI (lB (mL (Prod.fst x)))), .int (lBT (mL (Prod.fst x))), .ref sp179])], wl171, ws172, wst173, wr, wqL, fz]) (by simp only [List.flatten_cons, List.flatten_nil, List.cons_append, List.append_assoc, List.nil_append, List.append_nil]) ?_
          have hl_ges180 : List.length ges180 = List.length (lE (mL (Prod.fst x))) := by rw [← hges182, List.length_map]
          have hL1 : lLast (mL (Prod.fst x)) = lB (mL (Prod.fst x)) + (lE (mL (Prod.fst x))).length := rfl
          have hB1 : lB (mL (Prod.fst x)) = lB (mL (sureOf (List.length mas) M)) := by rw [i1]
          have hB2 : lLast (mL (Prod.fst x)) = lLast (mL (sureOf (List.length mas) M)) := by rw [i1]
          obtain ⟨g, hg⟩ := get_ex (l := ges180) (i := mDn (Prod.fst x) + 1 - lB (mL (Prod.fst x)) - 1) (by omega)
          have hz := (en_at hE181.2 hg).1
          have hge := enG_at hges182 hg
          have hgi : g.2 ∈ lE (mL (sureOf (List.length mas) M)) := by rw [← i1]; exact en_in hges182 hg
          have hee := hen _ hgi
          refine g_aload_n hX (pc := 23) dX2_settle_23 1 rfl ?_
          refine g_dup hX (pc := 24) dX2_settle_24 rfl ?_
          refine g_getN hX (pc := 25) fcX9 2 rfl 9 (by decide) q947 rfl (v := .int (nI (mDn (Prod.fst x)))) rfl dX2_settle_25 ?_
          refine g_iconst hX (pc := 28) (v := 1) dX2_settle_28 (by decide) ?_
          refine g_iadd hX (pc := 29) dX2_settle_29 ?_
          refine g_eqi (nI (mDn (Prod.fst x) + 1)) (nI_1 _) ?_
          refine g_putN hX (pc := 30) fcX9 2 (fs1 := [.int (nI (mN (Prod.fst x))), .ref rn164, .ref rk165, .ref rl166, .ref rs167, .ref rst168, .int (mR (Prod.fst x)), .int (mVt (Prod.fst x)), .int (nI (mSu (Prod.fst x))), .int (nI (mDn (Prod.fst x) + 1)), .int (bI (mLz (Prod.fst x)))]) (cs1 := [[(n, ob 1 [.ref lm, .ref lb, .ref lr, .int lo, .int nw])], wm, [(m, ob 8 [.int (nI (mN (Prod.fst x))), .ref rn164, .ref rk165, .ref rl166, .ref rs167, .ref rst168, .int (mR (Prod.fst x)), .int (mVt (Prod.fst x)), .int (nI (mSu (Prod.fst x))), .int (nI (mDn (Prod.fst x) + 1)), .int (bI (mLz (Prod.fst x)))])], [(rn164, iA (aC E 0) 5 fn169)], [(rk165, iA (aC E 0) 5 fk170)], [(rl166, ob 9 [.ref la178, .int (lT (mL (Prod.fst x))), .int (lV (mL (Prod.fst x))), .int (nI (lB (mL (Prod.fst x)))), .int (lBT (mL (Prod.fst x))), .ref sp179])], wl171, ws172, wst173, wr, wqL, fz]) rfl 9 (by decide) q947 rfl rfl rfl rfl (Nat.le_of_ble_eq_true rfl) rfl rfl dX2_settle_30 ?_
          refine g_aload_n hX (pc := 33) dX2_settle_33 1 rfl ?_
          refine g_getN hX (pc := 34) fcX9 2 rfl 3 (by decide) q933 rfl (v := .ref rl166) rfl dX2_settle_34 ?_
          refine g_aload_n hX (pc := 37) dX2_settle_37 1 rfl ?_
          refine g_getN hX (pc := 38) fcX9 2 rfl 9 (by decide) q947 rfl (v := .int (nI (mDn (Prod.fst x) + 1))) rfl dX2_settle_38 ?_
          refine g_callV hX (pc := 41) kX10_at (mt_Log_at E l rl166 la178 (lT (mL (Prod.fst x))) (lV (mL (Prod.fst x))) (lB (mL (Prod.fst x))) (lBT (mL (Prod.fst x))) sp179 fz ges180 wl171 (mDn (Prod.fst x) + 1) g hE181 (hg) (by omega) (by omega)) q248 fcX10 (sp_mem (i := 5) rfl) [5, 5, 9] rfl rfl rfl (Nat.le_of_ble_eq_true rfl) (Nat.le_of_ble_eq_true rfl) (Nat.le_of_ble_eq_true rfl) (by omega) (by omega) dX2_settle_41 (fun v w1 hp => ?_)
          obtain ⟨rfl, rfl⟩ := hp
          refine g_nrm (cs1 := [[(rl166, ob 9 [.ref la178, .int (lT (mL (Prod.fst x))), .int (lV (mL (Prod.fst x))), .int (nI (lB (mL (Prod.fst x)))), .int (lBT (mL (Prod.fst x))), .ref sp179])], wl171, fz, [(n, ob 1 [.ref lm, .ref lb, .ref lr, .int lo, .int nw])], wm, [(m, ob 8 [.int (nI (mN (Prod.fst x))), .ref rn164, .ref rk165, .ref rl166, .ref rs167, .ref rst168, .int (mR (Prod.fst x)), .int (mVt (Prod.fst x)), .int (nI (mSu (Prod.fst x))), .int (nI (mDn (Prod.fst x) + 1)), .int (bI (mLz (Prod.fst x)))])], [(rn164, iA (aC E 0) 5 fn169)], [(rk165, iA (aC E 0) 5 fk170)], ws172, wst173, wr, wqL]) (st1 := [.ref g.1]) rfl rfl ?_
          refine g_astore_n hX (pc := 44) (lv1 := [(2, .ref g.1), (0, .ref n), (1, .ref m)]) dX2_settle_44 (by decide) rfl ?_
          refine g_aload_n hX (pc := 45) dX2_settle_45 0 rfl ?_
          refine g_getNm hX (pc := 46) fcX14 (sp_in 2 rfl hz) 1 (by decide) q1121 rfl (v := .int g.2.2) rfl dX2_settle_46 ?_
          refine g_iconst hX (pc := 49) (v := (-1)) dX2_settle_49 (by decide) ?_
          refine g_icmp_eq hX (pc := 50) (tgt := 115) dX2_settle_50 rfl (fun c184 => ?_) (fun c184 => ?_)
          · have hds : doStep nw x = en3 (setDn (Prod.fst x) (mDn (Prod.fst x) + 1)) (Prod.snd x) := by
              unfold doStep
              rw [hge]
              exact if_pos c184
            refine g_pk [5, 5, 5, 0, 0, 3, 3] rfl ?_
            refine g_cs (cs1 := [[(m, ob 8 [.int (nI (mN (Prod.fst x))), .ref rn164, .ref rk165, .ref rl166, .ref rs167, .ref rst168, .int (mR (Prod.fst x)), .int (mVt (Prod.fst x)), .int (nI (mSu (Prod.fst x))), .int (nI (mDn (Prod.fst x) + 1)), .int (bI (mLz (Prod.fst x)))])], [(rn164, iA (aC E 0) 5 fn169)], [(rk165, iA (aC E 0) 5 fk170)], [(rl166, ob 9 [.ref la178, .int (lT (mL (Prod.fst x))), .int (lV (mL (Prod.fst x))), .int (nI (lB (mL (Prod.fst x)))), .int (lBT (mL (Prod.fst x))), .ref sp179])], wl171, ws172, wst173, fz, [(n, ob 1 [.ref lm, .ref lb, .ref lr, .int lo, .int nw])], wm, wr, wqL]) rfl ?_
            refine g_fl (cs1 := [((m, ob 8 [.int (nI (mN (Prod.fst x))), .ref rn164, .ref rk165, .ref rl166, .ref rs167, .ref rst168, .int (mR (Prod.fst x)), .int (mVt (Prod.fst x)), .int (nI (mSu (Prod.fst x))), .int (nI (mDn (Prod.fst x) + 1)), .int (bI (mLz (Prod.fst x)))]) :: (rn164, iA (aC E 0) 5 fn169) :: (rk165, iA (aC E 0) 5 fk170) :: (((rl166, ob 9 [.ref la178, .int (lT (mL (Prod.fst x))), .int (lV (mL (Prod.fst x))), .int (nI (lB (mL (Prod.fst x)))), .int (lBT (mL (Prod.fst x))), .ref sp179]) :: wl171) ++ (ws172 ++ wst173))), fz, [(n, ob 1 [.ref lm, .ref lb, .ref lr, .int lo, .int nw])], wm, wr, wqL]) (by simp only [List.flatten_cons, List.flatten_nil, List.cons_append, List.append_assoc, List.nil_append, List.append_nil]) ?_
            have hM185 : IsMach E fz m (setDn (Prod.fst x) (mDn (Prod.fst x) + 1)) ((m, ob 8 [.int (nI (mN (Prod.fst x))), .ref rn164, .ref rk165, .ref rl166, .ref rs167, .ref rst168, .int (mR (Prod.fst x)), .int (mVt (Prod.fst x)), .int (nI (mSu (Prod.fst x))), .int (nI (mDn (Prod.fst x) + 1)), .int (bI (mLz (Prod.fst x)))]) :: (rn164, iA (aC E 0) 5 fn169) :: (rk165, iA (aC E 0) 5 fk170) :: (((rl166, ob 9 [.ref la178, .int (lT (mL (Prod.fst x))), .int (lV (mL (Prod.fst x))), .int (nI (lB (mL (Prod.fst x)))), .int (lBT (mL (Prod.fst x))), .ref sp179]) :: wl171) ++ (ws172 ++ wst173))) := ⟨_, _, _, _, _, _, _, _, _, _, hn174, ⟨_, _, _, _, hE181, hges182, hsp183, rfl⟩, hV176, hS177, rfl⟩
            generalize ((m, ob 8 [.int (nI (mN (Prod.fst x))), .ref rn164, .ref rk165, .ref rl166, .ref rs167, .ref rst168, .int (mR (Prod.fst x)), .int (mVt (Prod.fst x)), .int (nI (mSu (Prod.fst x))), .int (nI (mDn (Prod.fst x) + 1)), .int (bI (mLz (Prod.fst x)))]) :: (rn164, iA (aC E 0) 5 fn169) :: (rk165, iA (aC E 0) 5 fk170) :: (((rl166, ob 9 [.ref la178, .int (lT (mL (Prod.fst x))), .int (lV (mL (Prod.fst x))), .int (nI (lB (mL (Prod.fst x)))), .int (lBT (mL (Prod.fst x))), .ref sp179]) :: wl171) ++ (ws172 ++ wst173))) = wk186 at hM185 ⊢
            have h187 : IsMach E fz m (Prod.fst (doStep nw x)) wk186 := by rw [hds]; exact hM185
            have h188 : RL E lr (Prod.snd (doStep nw x)) wr wqL := by rw [hds]; exact hRL
            refine g_goto hX (pc := 115) (tgt := 12) dX2_settle_115 rfl ?_
            refine g_pk [2, 2, 0, 1, 1, 0] rfl ?_
            refine g_cs (cs1 := [[(n, ob 1 [.ref lm, .ref lb, .ref lr, .int lo, .int nw])], wm, wk186, wr, wqL, fz]) rfl ?_
            refine g_lv (lv1 := [(0, .ref n), (1, .ref m)]) [1, 2] rfl ?_
            refine g_widen (kc1 := 0) (ks1 := 0) (by omega) (by omega) ?_
            exact ih2 (doStep nw x) wk186 wqL (by omega) (hI2) (hG2) (⟨hSt.2.2.trans hx3.1, doStep_Lz.trans hx3.2⟩) h187 h188
          · obtain ⟨rr189, hr190, hA191, rfl⟩ := hRL
            have hlr_rr189 : rr189.length = ((Prod.snd x)).length := by rw [← hr190, List.length_map]
            obtain ⟨j, hj1, hj2⟩ := hee.resolve_left c184
            obtain ⟨⟨a, r⟩, hj⟩ := get_ex (l := rr189) (i := j) (by omega)
            have hj3 : (List.map Prod.fst rr189)[j]? = some a := by rw [List.getElem?_map, hj]; rfl
            have hj4 : (Prod.snd x)[j]? = some r := by rw [← hr190, List.getElem?_map, hj]; rfl
            have hj5 := i7.2 r (List.mem_of_getElem? hj4)
            have hj40 := i7.1
            have hq := rqAt_nI hj4 (by omega)
            have hds : doStep nw x = en3 (setS (setDn (Prod.fst x) (mDn (Prod.fst x) + 1)) (Prod.fst (sDoes (mS (Prod.fst x)) g.2.2 (rC r) (rK r) (rY r) (rA r) (rB r)))) (if mR (Prod.fst x) = 3 ∧ g.2.1 = lT (mL (Prod.fst x)) then List.set (Prod.snd x) j (rAnswer r (Prod.snd (sDoes (mS (Prod.fst x)) g.2.2 (rC r) (rK r) (rY r) (rA r) (rB r))) nw) else Prod.snd x) := by
              unfold doStep
              rw [hge]
              refine (if_neg c184).trans ?_
              show (_, (if _ then _ else _)) = _
              rw [show rqAt (Prod.snd x) g.2.2 = r by rw [hj2]; exact hq, show g.2.2.toNatClampNeg = j by rw [hj2]; exact nI_clamp (by omega)]
              rfl
            refine g_fl (cs1 := [[(rl166, ob 9 [.ref la178, .int (lT (mL (Prod.fst x))), .int (lV (mL (Prod.fst x))), .int (nI (lB (mL (Prod.fst x)))), .int (lBT (mL (Prod.fst x))), .ref sp179])], wl171, fz, [(n, ob 1 [.ref lm, .ref lb, .ref lr, .int lo, .int nw])], wm, [(m, ob 8 [.int (nI (mN (Prod.fst x))), .ref rn164, .ref rk165, .ref rl166, .ref rs167, .ref rst168, .int (mR (Prod.fst x)), .int (mVt (Prod.fst x)), .int (nI (mSu (Prod.fst x))), .int (nI (mDn (Prod.fst x) + 1)), .int (bI (mLz (Prod.fst x)))])], [(rn164, iA (aC E 0) 5 fn169)], [(rk165, iA (aC E 0) 5 fk170)], ws172, wst173, wr, (RS E (List.take j rr189)), [(a, ob 10 [.int (nI (rC r)), .ref (aK E (rK r)), .int (nI (rY r)), .int (rA r), .int (rB r), .int (rRes r), .int (rSent r), .int (rAns r), .int (rTimes r)])], (RS E (List.drop (j + 1) rr189))]) (by simp only [rs_at hj, List.flatten_cons, List.flatten_nil, List.cons_append, List.append_assoc, List.nil_append, List.append_nil]) ?_
            refine g_aload_n hX (pc := 53) dX2_settle_53 1 rfl ?_
            refine g_get hX (pc := 54) fcX2 3 rfl 2 (by decide) q159 rfl (v := .ref lr) rfl dX2_settle_54 ?_
            refine g_aload_n hX (pc := 57) dX2_settle_57 0 rfl ?_
            refine g_getNm hX (pc := 58) fcX14 (sp_in 2 rfl hz) 1 (by decide) q1121 rfl (v := .int g.2.2) rfl dX2_settle_58 ?_
            refine g_eqi (nI j) (hj2) ?_
            obtain ⟨fs192, hm193⟩ := AL.head hA191
            refine g_callF hX (pc := 61) kfJ2_get (mt_AL_get E l lr (List.map Prod.fst rr189) wr j a hA191 (hj3)) q203 fcJ2 (sp_in 10 rfl hm193) [10] rfl rfl rfl (Nat.le_of_ble_eq_true rfl) (Nat.le_of_ble_eq_true rfl) (Nat.le_of_ble_eq_true rfl) (by omega) (by omega) dX2_settle_61 (fun v w1 hp => ?_)
            obtain ⟨rfl, rfl⟩ := hp
            refine g_nrm (cs1 := [wr, [(rl166, ob 9 [.ref la178, .int (lT (mL (Prod.fst x))), .int (lV (mL (Prod.fst x))), .int (nI (lB (mL (Prod.fst x)))), .int (lBT (mL (Prod.fst x))), .ref sp179])], wl171, fz, [(n, ob 1 [.ref lm, .ref lb, .ref lr, .int lo, .int nw])], wm, [(m, ob 8 [.int (nI (mN (Prod.fst x))), .ref rn164, .ref rk165, .ref rl166, .ref rs167, .ref rst168, .int (mR (Prod.fst x)), .int (mVt (Prod.fst x)), .int (nI (mSu (Prod.fst x))), .int (nI (mDn (Prod.fst x) + 1)), .int (bI (mLz (Prod.fst x)))])], [(rn164, iA (aC E 0) 5 fn169)], [(rk165, iA (aC E 0) 5 fk170)], ws172, wst173, (RS E (List.take j rr189)), [(a, ob 10 [.int (nI (rC r)), .ref (aK E (rK r)), .int (nI (rY r)), .int (rA r), .int (rB r), .int (rRes r), .int (rSent r), .int (rAns r), .int (rTimes r)])], (RS E (List.drop (j + 1) rr189))]) (st1 := [.ref a]) rfl rfl ?_
            refine g_cast hX (pc := 66) fcX12 (sp_mem (i := 12) rfl) q726 dX2_settle_66 ?_
            refine g_astore_n hX (pc := 69) (lv1 := [(3, .ref a), (2, .ref g.1), (0, .ref n), (1, .ref m)]) dX2_settle_69 (by decide) rfl ?_
            refine g_aload_n hX (pc := 70) dX2_settle_70 3 rfl ?_
            refine g_getN hX (pc := 71) fcX9 6 rfl 5 (by decide) q938 rfl (v := .ref rst168) rfl dX2_settle_71 ?_
            refine g_aload_n hX (pc := 74) dX2_settle_74 1 rfl ?_
            refine g_getNm hX (pc := 75) fcX14 (sp_in 3 rfl hz) 1 (by decide) q1121 rfl (v := .int g.2.2) rfl dX2_settle_75 ?_
            refine g_aload_n hX (pc := 78) dX2_settle_78 0 rfl ?_
            obtain ⟨sr194, hs195⟩ := hS177
            obtain ⟨fs196, hm197⟩ := IsSR.head hs195
            refine g_callV hX (pc := 79) kX8_does (mt_Store_does E l rst168 sr194 (mS (Prod.fst x)) wst173 g.2.2 a (rC r) (rK r) (rY r) (rA r) (rB r) (rRes r) (rSent r) (rAns r) (rTimes r) hs195 (by omega) (by omega) (by omega)) q1147 fcX8 (sp_in 10 rfl hm197) [10, 11] rfl rfl rfl (Nat.le_of_ble_eq_true rfl) (Nat.le_of_ble_eq_true rfl) (Nat.le_of_ble_eq_true rfl) (by omega) (by omega) dX2_settle_79 (fun v w1 hp => ?_)
            obtain ⟨w1198, h199, rfl, rfl⟩ := hp
            refine g_nrm (cs1 := [w1198, [(a, ob 10 [.int (nI (rC r)), .ref (aK E (rK r)), .int (nI (rY r)), .int (rA r), .int (rB r), .int (rRes r), .int (rSent r), .int (rAns r), .int (rTimes r)])], wr, [(rl166, ob 9 [.ref la178, .int (lT (mL (Prod.fst x))), .int (lV (mL (Prod.fst x))), .int (nI (lB (mL (Prod.fst x)))), .int (lBT (mL (Prod.fst x))), .ref sp179])], wl171, fz, [(n, ob 1 [.ref lm, .ref lb, .ref lr, .int lo, .int nw])], wm, [(m, ob 8 [.int (nI (mN (Prod.fst x))), .ref rn164, .ref rk165, .ref rl166, .ref rs167, .ref rst168, .int (mR (Prod.fst x)), .int (mVt (Prod.fst x)), .int (nI (mSu (Prod.fst x))), .int (nI (mDn (Prod.fst x) + 1)), .int (bI (mLz (Prod.fst x)))])], [(rn164, iA (aC E 0) 5 fn169)], [(rk165, iA (aC E 0) 5 fk170)], ws172, (RS E (List.take j rr189)), (RS E (List.drop (j + 1) rr189))]) (st1 := [.int (Prod.snd (sDoes (mS (Prod.fst x)) g.2.2 (rC r) (rK r) (rY r) (rA r) (rB r)))]) rfl rfl ?_
            refine g_istore hX (pc := 82) (lv1 := [(4, .int (Prod.snd (sDoes (mS (Prod.fst x)) g.2.2 (rC r) (rK r) (rY r) (rA r) (rB r)))), (3, .ref a), (2, .ref g.1), (0, .ref n), (1, .ref m)]) dX2_settle_82 (by decide) rfl ?_
            refine g_aload_n hX (pc := 84) dX2_settle_84 4 rfl ?_
            refine g_callV hX (pc := 85) kX9_isLeader (mt_Machine_isLeader E l m (nI (mN (Prod.fst x))) rn164 rk165 rl166 rs167 rst168 (mR (Prod.fst x)) (mVt (Prod.fst x)) (nI (mSu (Prod.fst x))) (nI (mDn (Prod.fst x) + 1)) (bI (mLz (Prod.fst x)))) q225 fcX9 (sp_mem (i := 8) rfl) [8] rfl rfl rfl (Nat.le_of_ble_eq_true rfl) (Nat.le_of_ble_eq_true rfl) (Nat.le_of_ble_eq_true rfl) (by omega) (by omega) dX2_settle_85 (fun v w1 hp => ?_)
            obtain ⟨rfl, rfl⟩ := hp
            refine g_nrm (cs1 := [[(m, ob 8 [.int (nI (mN (Prod.fst x))), .ref rn164, .ref rk165, .ref rl166, .ref rs167, .ref rst168, .int (mR (Prod.fst x)), .int (mVt (Prod.fst x)), .int (nI (mSu (Prod.fst x))), .int (nI (mDn (Prod.fst x) + 1)), .int (bI (mLz (Prod.fst x)))])], w1198, [(a, ob 10 [.int (nI (rC r)), .ref (aK E (rK r)), .int (nI (rY r)), .int (rA r), .int (rB r), .int (rRes r), .int (rSent r), .int (rAns r), .int (rTimes r)])], wr, [(rl166, ob 9 [.ref la178, .int (lT (mL (Prod.fst x))), .int (lV (mL (Prod.fst x))), .int (nI (lB (mL (Prod.fst x)))), .int (lBT (mL (Prod.fst x))), .ref sp179])], wl171, fz, [(n, ob 1 [.ref lm, .ref lb, .ref lr, .int lo, .int nw])], wm, [(rn164, iA (aC E 0) 5 fn169)], [(rk165, iA (aC E 0) 5 fk170)], ws172, (RS E (List.take j rr189)), (RS E (List.drop (j + 1) rr189))]) (st1 := [.int (if (mR (Prod.fst x)) = 3 then 1 else 0)]) rfl rfl ?_
            refine g_if_eq hX (pc := 88) (tgt := 115) dX2_settle_88 rfl (fun c200_ => ?_) (fun c200_ => ?_)
            · have c200 := z10.mp c200_
              rw [if_neg (fun z => c200 z.1)] at hds
              have hst0 : List.set (Prod.snd x) j r = Prod.snd x := by rw [← (List.getElem?_eq_some_iff.mp hj4).2]; exact List.set_getElem_self _
              refine g_pk [12, 2, 11] rfl ?_
              refine g_cs (cs1 := [(RS E (List.take j rr189)), [(a, ob 10 [.int (nI (rC r)), .ref (aK E (rK r)), .int (nI (rY r)), .int (rA r), .int (rB r), .int (rRes r), .int (rSent r), .int (rAns r), .int (rTimes r)])], (RS E (List.drop (j + 1) rr189)), [(m, ob 8 [.int (nI (mN (Prod.fst x))), .ref rn164, .ref rk165, .ref rl166, .ref rs167, .ref rst168, .int (mR (Prod.fst x)), .int (mVt (Prod.fst x)), .int (nI (mSu (Prod.fst x))), .int (nI (mDn (Prod.fst x) + 1)), .int (bI (mLz (Prod.fst x)))])], w1198, wr, [(rl166, ob 9 [.ref la178, .int (lT (mL (Prod.fst x))), .int (lV (mL (Prod.fst x))), .int (nI (lB (mL (Prod.fst x)))), .int (lBT (mL (Prod.fst x))), .ref sp179])], wl171, fz, [(n, ob 1 [.ref lm, .ref lb, .ref lr, .int lo, .int nw])], wm, [(rn164, iA (aC E 0) 5 fn169)], [(rk165, iA (aC E 0) 5 fk170)], ws172]) rfl ?_
              refine g_fl (cs1 := [((RS E (List.take j rr189)) ++ ([(a, ob 10 [.int (nI (rC r)), .ref (aK E (rK r)), .int (nI (rY r)), .int (rA r), .int (rB r), .int (rRes r), .int (rSent r), .int (rAns r), .int (rTimes r)])] ++ (RS E (List.drop (j + 1) rr189)))), [(m, ob 8 [.int (nI (mN (Prod.fst x))), .ref rn164, .ref rk165, .ref rl166, .ref rs167, .ref rst168, .int (mR (Prod.fst x)), .int (mVt (Prod.fst x)), .int (nI (mSu (Prod.fst x))), .int (nI (mDn (Prod.fst x) + 1)), .int (bI (mLz (Prod.fst x)))])], w1198, wr, [(rl166, ob 9 [.ref la178, .int (lT (mL (Prod.fst x))), .int (lV (mL (Prod.fst x))), .int (nI (lB (mL (Prod.fst x)))), .int (lBT (mL (Prod.fst x))), .ref sp179])], wl171, fz, [(n, ob 1 [.ref lm, .ref lb, .ref lr, .int lo, .int nw])], wm, [(rn164, iA (aC E 0) 5 fn169)], [(rk165, iA (aC E 0) 5 fk170)], ws172]) (by simp only [List.flatten_cons, List.flatten_nil, List.cons_append, List.append_assoc, List.nil_append, List.append_nil]) ?_
              have hRL201 : RL E lr (List.set (Prod.snd x) j r) wr ((RS E (List.take j rr189)) ++ ([(a, ob 10 [.int (nI (rC r)), .ref (aK E (rK r)), .int (nI (rY r)), .int (rA r), .int (rB r), .int (rRes r), .int (rSent r), .int (rAns r), .int (rTimes r)])] ++ (RS E (List.drop (j + 1) rr189)))) := by rw [← hr190]; exact rl_set (r' := r) hj hA191
              generalize ((RS E (List.take j rr189)) ++ ([(a, ob 10 [.int (nI (rC r)), .ref (aK E (rK r)), .int (nI (rY r)), .int (rA r), .int (rB r), .int (rRes r), .int (rSent r), .int (rAns r), .int (rTimes r)])] ++ (RS E (List.drop (j + 1) rr189)))) = wq202 at hRL201 ⊢
              refine g_pk [1, 8, 8, 3, 3, 6, 1] rfl ?_
              refine g_cs (cs1 := [[(m, ob 8 [.int (nI (mN (Prod.fst x))), .ref rn164, .ref rk165, .ref rl166, .ref rs167, .ref rst168, .int (mR (Prod.fst x)), .int (mVt (Prod.fst x)), .int (nI (mSu (Prod.fst x))), .int (nI (mDn (Prod.fst x) + 1)), .int (bI (mLz (Prod.fst x)))])], [(rn164, iA (aC E 0) 5 fn169)], [(rk165, iA (aC E 0) 5 fk170)], [(rl166, ob 9 [.ref la178, .int (lT (mL (Prod.fst x))), .int (lV (mL (Prod.fst x))), .int (nI (lB (mL (Prod.fst x)))), .int (lBT (mL (Prod.fst x))), .ref sp179])], wl171, ws172, w1198, wq202, wr, fz, [(n, ob 1 [.ref lm, .ref lb, .ref lr, .int lo, .int nw])], wm]) rfl ?_
              refine g_fl (cs1 := [((m, ob 8 [.int (nI (mN (Prod.fst x))), .ref rn164, .ref rk165, .ref rl166, .ref rs167, .ref rst168, .int (mR (Prod.fst x)), .int (mVt (Prod.fst x)), .int (nI (mSu (Prod.fst x))), .int (nI (mDn (Prod.fst x) + 1)), .int (bI (mLz (Prod.fst x)))]) :: (rn164, iA (aC E 0) 5 fn169) :: (rk165, iA (aC E 0) 5 fk170) :: (((rl166, ob 9 [.ref la178, .int (lT (mL (Prod.fst x))), .int (lV (mL (Prod.fst x))), .int (nI (lB (mL (Prod.fst x)))), .int (lBT (mL (Prod.fst x))), .ref sp179]) :: wl171) ++ (ws172 ++ w1198))), wq202, wr, fz, [(n, ob 1 [.ref lm, .ref lb, .ref lr, .int lo, .int nw])], wm]) (by simp only [List.flatten_cons, List.flatten_nil, List.cons_append, List.append_assoc, List.nil_append, List.append_nil]) ?_
              have hM203 : IsMach E fz m (setS (setDn (Prod.fst x) (mDn (Prod.fst x) + 1)) (Prod.fst (sDoes (mS (Prod.fst x)) g.2.2 (rC r) (rK r) (rY r) (rA r) (rB r)))) ((m, ob 8 [.int (nI (mN (Prod.fst x))), .ref rn164, .ref rk165, .ref rl166, .ref rs167, .ref rst168, .int (mR (Prod.fst x)), .int (mVt (Prod.fst x)), .int (nI (mSu (Prod.fst x))), .int (nI (mDn (Prod.fst x) + 1)), .int (bI (mLz (Prod.fst x)))]) :: (rn164, iA (aC E 0) 5 fn169) :: (rk165, iA (aC E 0) 5 fk170) :: (((rl166, ob 9 [.ref la178, .int (lT (mL (Prod.fst x))), .int (lV (mL (Prod.fst x))), .int (nI (lB (mL (Prod.fst x)))), .int (lBT (mL (Prod.fst x))), .ref sp179]) :: wl171) ++ (ws172 ++ w1198))) := ⟨_, _, _, _, _, _, _, _, _, _, hn174, ⟨_, _, _, _, hE181, hges182, hsp183, rfl⟩, hV176, ⟨_, h199⟩, rfl⟩
              generalize ((m, ob 8 [.int (nI (mN (Prod.fst x))), .ref rn164, .ref rk165, .ref rl166, .ref rs167, .ref rst168, .int (mR (Prod.fst x)), .int (mVt (Prod.fst x)), .int (nI (mSu (Prod.fst x))), .int (nI (mDn (Prod.fst x) + 1)), .int (bI (mLz (Prod.fst x)))]) :: (rn164, iA (aC E 0) 5 fn169) :: (rk165, iA (aC E 0) 5 fk170) :: (((rl166, ob 9 [.ref la178, .int (lT (mL (Prod.fst x))), .int (lV (mL (Prod.fst x))), .int (nI (lB (mL (Prod.fst x)))), .int (lBT (mL (Prod.fst x))), .ref sp179]) :: wl171) ++ (ws172 ++ w1198))) = wk204 at hM203 ⊢
              have h205 : RL E lr (Prod.snd x) wr wq202 := by rw [hst0] at hRL201; exact hRL201
              have h206 : IsMach E fz m (Prod.fst (doStep nw x)) wk204 := by rw [hds]; exact hM203
              have h207 : RL E lr (Prod.snd (doStep nw x)) wr wq202 := by rw [hds]; exact h205
              refine g_goto hX (pc := 115) (tgt := 12) dX2_settle_115 rfl ?_
              refine g_pk [4, 4, 0, 1, 0, 0] rfl ?_
              refine g_cs (cs1 := [[(n, ob 1 [.ref lm, .ref lb, .ref lr, .int lo, .int nw])], wm, wk204, wr, wq202, fz]) rfl ?_
              refine g_lv (lv1 := [(0, .ref n), (1, .ref m)]) [3, 4] rfl ?_
              refine g_widen (kc1 := 0) (ks1 := 0) (by omega) (by omega) ?_
              exact ih2 (doStep nw x) wk204 wq202 (by omega) (hI2) (hG2) (⟨hSt.2.2.trans hx3.1, doStep_Lz.trans hx3.2⟩) h206 h207
            · have c200 := z10n.mp c200_
              refine g_aload_n hX (pc := 91) dX2_settle_91 2 rfl ?_
              refine g_getNm hX (pc := 92) fcX14 (sp_in 6 rfl hz) 0 (by decide) q1118 rfl (v := .int g.2.1) rfl dX2_settle_92 ?_
              refine g_aload_n hX (pc := 95) dX2_settle_95 4 rfl ?_
              refine g_getN hX (pc := 96) fcX9 0 rfl 3 (by decide) q933 rfl (v := .ref rl166) rfl dX2_settle_96 ?_
              refine g_getN hX (pc := 99) fcX10 4 rfl 1 (by decide) q844 rfl (v := .int (lT (mL (Prod.fst x)))) rfl dX2_settle_99 ?_
              refine g_icmp_ne hX (pc := 102) (tgt := 115) dX2_settle_102 rfl (fun c208 => ?_) (fun c208 => ?_)
              · rw [if_neg (fun z => c208 z.2)] at hds
                have hst0 : List.set (Prod.snd x) j r = Prod.snd x := by rw [← (List.getElem?_eq_some_iff.mp hj4).2]; exact List.set_getElem_self _
                refine g_pk [12, 2, 11] rfl ?_
                refine g_cs (cs1 := [(RS E (List.take j rr189)), [(a, ob 10 [.int (nI (rC r)), .ref (aK E (rK r)), .int (nI (rY r)), .int (rA r), .int (rB r), .int (rRes r), .int (rSent r), .int (rAns r), .int (rTimes r)])], (RS E (List.drop (j + 1) rr189)), [(m, ob 8 [.int (nI (mN (Prod.fst x))), .ref rn164, .ref rk165, .ref rl166, .ref rs167, .ref rst168, .int (mR (Prod.fst x)), .int (mVt (Prod.fst x)), .int (nI (mSu (Prod.fst x))), .int (nI (mDn (Prod.fst x) + 1)), .int (bI (mLz (Prod.fst x)))])], w1198, wr, [(rl166, ob 9 [.ref la178, .int (lT (mL (Prod.fst x))), .int (lV (mL (Prod.fst x))), .int (nI (lB (mL (Prod.fst x)))), .int (lBT (mL (Prod.fst x))), .ref sp179])], wl171, fz, [(n, ob 1 [.ref lm, .ref lb, .ref lr, .int lo, .int nw])], wm, [(rn164, iA (aC E 0) 5 fn169)], [(rk165, iA (aC E 0) 5 fk170)], ws172]) rfl ?_
                refine g_fl (cs1 := [((RS E (List.take j rr189)) ++ ([(a, ob 10 [.int (nI (rC r)), .ref (aK E (rK r)), .int (nI (rY r)), .int (rA r), .int (rB r), .int (rRes r), .int (rSent r), .int (rAns r), .int (rTimes r)])] ++ (RS E (List.drop (j + 1) rr189)))), [(m, ob 8 [.int (nI (mN (Prod.fst x))), .ref rn164, .ref rk165, .ref rl166, .ref rs167, .ref rst168, .int (mR (Prod.fst x)), .int (mVt (Prod.fst x)), .int (nI (mSu (Prod.fst x))), .int (nI (mDn (Prod.fst x) + 1)), .int (bI (mLz (Prod.fst x)))])], w1198, wr, [(rl166, ob 9 [.ref la178, .int (lT (mL (Prod.fst x))), .int (lV (mL (Prod.fst x))), .int (nI (lB (mL (Prod.fst x)))), .int (lBT (mL (Prod.fst x))), .ref sp179])], wl171, fz, [(n, ob 1 [.ref lm, .ref lb, .ref lr, .int lo, .int nw])], wm, [(rn164, iA (aC E 0) 5 fn169)], [(rk165, iA (aC E 0) 5 fk170)], ws172]) (by simp only [List.flatten_cons, List.flatten_nil, List.cons_append, List.append_assoc, List.nil_append, List.append_nil]) ?_
                have hRL209 : RL E lr (List.set (Prod.snd x) j r) wr ((RS E (List.take j rr189)) ++ ([(a, ob 10 [.int (nI (rC r)), .ref (aK E (rK r)), .int (nI (rY r)), .int (rA r), .int (rB r), .int (rRes r), .int (rSent r), .int (rAns r), .int (rTimes r)])] ++ (RS E (List.drop (j + 1) rr189)))) := by rw [← hr190]; exact rl_set (r' := r) hj hA191
                generalize ((RS E (List.take j rr189)) ++ ([(a, ob 10 [.int (nI (rC r)), .ref (aK E (rK r)), .int (nI (rY r)), .int (rA r), .int (rB r), .int (rRes r), .int (rSent r), .int (rAns r), .int (rTimes r)])] ++ (RS E (List.drop (j + 1) rr189)))) = wq210 at hRL209 ⊢
                refine g_pk [1, 8, 8, 3, 3, 6, 1] rfl ?_
                refine g_cs (cs1 := [[(m, ob 8 [.int (nI (mN (Prod.fst x))), .ref rn164, .ref rk165, .ref rl166, .ref rs167, .ref rst168, .int (mR (Prod.fst x)), .int (mVt (Prod.fst x)), .int (nI (mSu (Prod.fst x))), .int (nI (mDn (Prod.fst x) + 1)), .int (bI (mLz (Prod.fst x)))])], [(rn164, iA (aC E 0) 5 fn169)], [(rk165, iA (aC E 0) 5 fk170)], [(rl166, ob 9 [.ref la178, .int (lT (mL (Prod.fst x))), .int (lV (mL (Prod.fst x))), .int (nI (lB (mL (Prod.fst x)))), .int (lBT (mL (Prod.fst x))), .ref sp179])], wl171, ws172, w1198, wq210, wr, fz, [(n, ob 1 [.ref lm, .ref lb, .ref lr, .int lo, .int nw])], wm]) rfl ?_
                refine g_fl (cs1 := [((m, ob 8 [.int (nI (mN (Prod.fst x))), .ref rn164, .ref rk165, .ref rl166, .ref rs167, .ref rst168, .int (mR (Prod.fst x)), .int (mVt (Prod.fst x)), .int (nI (mSu (Prod.fst x))), .int (nI (mDn (Prod.fst x) + 1)), .int (bI (mLz (Prod.fst x)))]) :: (rn164, iA (aC E 0) 5 fn169) :: (rk165, iA (aC E 0) 5 fk170) :: (((rl166, ob 9 [.ref la178, .int (lT (mL (Prod.fst x))), .int (lV (mL (Prod.fst x))), .int (nI (lB (mL (Prod.fst x)))), .int (lBT (mL (Prod.fst x))), .ref sp179]) :: wl171) ++ (ws172 ++ w1198))), wq210, wr, fz, [(n, ob 1 [.ref lm, .ref lb, .ref lr, .int lo, .int nw])], wm]) (by simp only [List.flatten_cons, List.flatten_nil, List.cons_append, List.append_assoc, List.nil_append, List.append_nil]) ?_
                have hM211 : IsMach E fz m (setS (setDn (Prod.fst x) (mDn (Prod.fst x) + 1)) (Prod.fst (sDoes (mS (Prod.fst x)) g.2.2 (rC r) (rK r) (rY r) (rA r) (rB r)))) ((m, ob 8 [.int (nI (mN (Prod.fst x))), .ref rn164, .ref rk165, .ref rl166, .ref rs167, .ref rst168, .int (mR (Prod.fst x)), .int (mVt (Prod.fst x)), .int (nI (mSu (Prod.fst x))), .int (nI (mDn (Prod.fst x) + 1)), .int (bI (mLz (Prod.fst x)))]) :: (rn164, iA (aC E 0) 5 fn169) :: (rk165, iA (aC E 0) 5 fk170) :: (((rl166, ob 9 [.ref la178, .int (lT (mL (Prod.fst x))), .int (lV (mL (Prod.fst x))), .int (nI (lB (mL (Prod.fst x)))), .int (lBT (mL (Prod.fst x))), .ref sp179]) :: wl171) ++ (ws172 ++ w1198))) := ⟨_, _, _, _, _, _, _, _, _, _, hn174, ⟨_, _, _, _, hE181, hges182, hsp183, rfl⟩, hV176, ⟨_, h199⟩, rfl⟩
                generalize ((m, ob 8 [.int (nI (mN (Prod.fst x))), .ref rn164, .ref rk165, .ref rl166, .ref rs167, .ref rst168, .int (mR (Prod.fst x)), .int (mVt (Prod.fst x)), .int (nI (mSu (Prod.fst x))), .int (nI (mDn (Prod.fst x) + 1)), .int (bI (mLz (Prod.fst x)))]) :: (rn164, iA (aC E 0) 5 fn169) :: (rk165, iA (aC E 0) 5 fk170) :: (((rl166, ob 9 [.ref la178, .int (lT (mL (Prod.fst x))), .int (lV (mL (Prod.fst x))), .int (nI (lB (mL (Prod.fst x)))), .int (lBT (mL (Prod.fst x))), .ref sp179]) :: wl171) ++ (ws172 ++ w1198))) = wk212 at hM211 ⊢
                have h213 : RL E lr (Prod.snd x) wr wq210 := by rw [hst0] at hRL209; exact hRL209
                have h214 : IsMach E fz m (Prod.fst (doStep nw x)) wk212 := by rw [hds]; exact hM211
                have h215 : RL E lr (Prod.snd (doStep nw x)) wr wq210 := by rw [hds]; exact h213
                refine g_goto hX (pc := 115) (tgt := 12) dX2_settle_115 rfl ?_
                refine g_pk [4, 4, 0, 1, 0, 0] rfl ?_
                refine g_cs (cs1 := [[(n, ob 1 [.ref lm, .ref lb, .ref lr, .int lo, .int nw])], wm, wk212, wr, wq210, fz]) rfl ?_
                refine g_lv (lv1 := [(0, .ref n), (1, .ref m)]) [3, 4] rfl ?_
                refine g_widen (kc1 := 0) (ks1 := 0) (by omega) (by omega) ?_
                exact ih2 (doStep nw x) wk212 wq210 (by omega) (hI2) (hG2) (⟨hSt.2.2.trans hx3.1, doStep_Lz.trans hx3.2⟩) h214 h215
              · refine g_aload_n hX (pc := 105) dX2_settle_105 1 rfl ?_
                refine g_iload hX (pc := 106) dX2_settle_106 0 rfl ?_
                refine g_aload_n hX (pc := 108) dX2_settle_108 3 rfl ?_
                refine g_get hX (pc := 109) fcX2 7 rfl 4 (by decide) q163 rfl (v := .int nw) rfl dX2_settle_109 ?_
                refine g_callV hX (pc := 112) kX12_answer (mt_Request_answer E l a (nI (rC r)) (rK r) (nI (rY r)) (rA r) (rB r) (rRes r) (rSent r) (rAns r) (rTimes r) (Prod.snd (sDoes (mS (Prod.fst x)) g.2.2 (rC r) (rK r) (rY r) (rA r) (rB r))) nw) q1170 fcX12 (sp_mem (i := 2) rfl) [2] rfl rfl rfl (Nat.le_of_ble_eq_true rfl) (Nat.le_of_ble_eq_true rfl) (Nat.le_of_ble_eq_true rfl) (by omega) (by omega) dX2_settle_112 (fun v w1 hp => ?_)
                obtain ⟨rfl, rfl⟩ := hp
                refine g_nrm (cs1 := [[(a, ob 10 [.int (nI (rC r)), .ref (aK E (rK r)), .int (nI (rY r)), .int (rA r), .int (rB r), .int (if (rAns r) = (-1) ∧ ¬ (Prod.snd (sDoes (mS (Prod.fst x)) g.2.2 (rC r) (rK r) (rY r) (rA r) (rB r))) = (-1) then (Prod.snd (sDoes (mS (Prod.fst x)) g.2.2 (rC r) (rK r) (rY r) (rA r) (rB r))) else (rRes r)), .int (rSent r), .int (if (rAns r) = (-1) ∧ ¬ (Prod.snd (sDoes (mS (Prod.fst x)) g.2.2 (rC r) (rK r) (rY r) (rA r) (rB r))) = (-1) then nw else (rAns r)), .int (rTimes r)])], [(m, ob 8 [.int (nI (mN (Prod.fst x))), .ref rn164, .ref rk165, .ref rl166, .ref rs167, .ref rst168, .int (mR (Prod.fst x)), .int (mVt (Prod.fst x)), .int (nI (mSu (Prod.fst x))), .int (nI (mDn (Prod.fst x) + 1)), .int (bI (mLz (Prod.fst x)))])], w1198, wr, [(rl166, ob 9 [.ref la178, .int (lT (mL (Prod.fst x))), .int (lV (mL (Prod.fst x))), .int (nI (lB (mL (Prod.fst x)))), .int (lBT (mL (Prod.fst x))), .ref sp179])], wl171, fz, [(n, ob 1 [.ref lm, .ref lb, .ref lr, .int lo, .int nw])], wm, [(rn164, iA (aC E 0) 5 fn169)], [(rk165, iA (aC E 0) 5 fk170)], ws172, (RS E (List.take j rr189)), (RS E (List.drop (j + 1) rr189))]) (st1 := []) rfl rfl ?_
                rw [if_pos ⟨c200, c208⟩] at hds
                refine g_pk [12, 0, 11] rfl ?_
                refine g_cs (cs1 := [(RS E (List.take j rr189)), [(a, ob 10 [.int (nI (rC r)), .ref (aK E (rK r)), .int (nI (rY r)), .int (rA r), .int (rB r), .int (if (rAns r) = (-1) ∧ ¬ (Prod.snd (sDoes (mS (Prod.fst x)) g.2.2 (rC r) (rK r) (rY r) (rA r) (rB r))) = (-1) then (Prod.snd (sDoes (mS (Prod.fst x)) g.2.2 (rC r) (rK r) (rY r) (rA r) (rB r))) else (rRes r)), .int (rSent r), .int (if (rAns r) = (-1) ∧ ¬ (Prod.snd (sDoes (mS (Prod.fst x)) g.2.2 (rC r) (rK r) (rY r) (rA r) (rB r))) = (-1) then nw else (rAns r)), .int (rTimes r)])], (RS E (List.drop (j + 1) rr189)), [(m, ob 8 [.int (nI (mN (Prod.fst x))), .ref rn164, .ref rk165, .ref rl166, .ref rs167, .ref rst168, .int (mR (Prod.fst x)), .int (mVt (Prod.fst x)), .int (nI (mSu (Prod.fst x))), .int (nI (mDn (Prod.fst x) + 1)), .int (bI (mLz (Prod.fst x)))])], w1198, wr, [(rl166, ob 9 [.ref la178, .int (lT (mL (Prod.fst x))), .int (lV (mL (Prod.fst x))), .int (nI (lB (mL (Prod.fst x)))), .int (lBT (mL (Prod.fst x))), .ref sp179])], wl171, fz, [(n, ob 1 [.ref lm, .ref lb, .ref lr, .int lo, .int nw])], wm, [(rn164, iA (aC E 0) 5 fn169)], [(rk165, iA (aC E 0) 5 fk170)], ws172]) rfl ?_
                refine g_fl (cs1 := [((RS E (List.take j rr189)) ++ ([(a, ob 10 [.int (nI (rC r)), .ref (aK E (rK r)), .int (nI (rY r)), .int (rA r), .int (rB r), .int (if (rAns r) = (-1) ∧ ¬ (Prod.snd (sDoes (mS (Prod.fst x)) g.2.2 (rC r) (rK r) (rY r) (rA r) (rB r))) = (-1) then (Prod.snd (sDoes (mS (Prod.fst x)) g.2.2 (rC r) (rK r) (rY r) (rA r) (rB r))) else (rRes r)), .int (rSent r), .int (if (rAns r) = (-1) ∧ ¬ (Prod.snd (sDoes (mS (Prod.fst x)) g.2.2 (rC r) (rK r) (rY r) (rA r) (rB r))) = (-1) then nw else (rAns r)), .int (rTimes r)])] ++ (RS E (List.drop (j + 1) rr189)))), [(m, ob 8 [.int (nI (mN (Prod.fst x))), .ref rn164, .ref rk165, .ref rl166, .ref rs167, .ref rst168, .int (mR (Prod.fst x)), .int (mVt (Prod.fst x)), .int (nI (mSu (Prod.fst x))), .int (nI (mDn (Prod.fst x) + 1)), .int (bI (mLz (Prod.fst x)))])], w1198, wr, [(rl166, ob 9 [.ref la178, .int (lT (mL (Prod.fst x))), .int (lV (mL (Prod.fst x))), .int (nI (lB (mL (Prod.fst x)))), .int (lBT (mL (Prod.fst x))), .ref sp179])], wl171, fz, [(n, ob 1 [.ref lm, .ref lb, .ref lr, .int lo, .int nw])], wm, [(rn164, iA (aC E 0) 5 fn169)], [(rk165, iA (aC E 0) 5 fk170)], ws172]) (by simp only [List.flatten_cons, List.flatten_nil, List.cons_append, List.append_assoc, List.nil_append, List.append_nil]) ?_
                have hRL216 : RL E lr (List.set (Prod.snd x) j (rAnswer r (Prod.snd (sDoes (mS (Prod.fst x)) g.2.2 (rC r) (rK r) (rY r) (rA r) (rB r))) nw)) wr ((RS E (List.take j rr189)) ++ ([(a, ob 10 [.int (nI (rC r)), .ref (aK E (rK r)), .int (nI (rY r)), .int (rA r), .int (rB r), .int (if (rAns r) = (-1) ∧ ¬ (Prod.snd (sDoes (mS (Prod.fst x)) g.2.2 (rC r) (rK r) (rY r) (rA r) (rB r))) = (-1) then (Prod.snd (sDoes (mS (Prod.fst x)) g.2.2 (rC r) (rK r) (rY r) (rA r) (rB r))) else (rRes r)), .int (rSent r), .int (if (rAns r) = (-1) ∧ ¬ (Prod.snd (sDoes (mS (Prod.fst x)) g.2.2 (rC r) (rK r) (rY r) (rA r) (rB r))) = (-1) then nw else (rAns r)), .int (rTimes r)])] ++ (RS E (List.drop (j + 1) rr189)))) := by rw [← hr190]; exact rl_set (r' := (rAnswer r (Prod.snd (sDoes (mS (Prod.fst x)) g.2.2 (rC r) (rK r) (rY r) (rA r) (rB r))) nw)) hj hA191
                generalize ((RS E (List.take j rr189)) ++ ([(a, ob 10 [.int (nI (rC r)), .ref (aK E (rK r)), .int (nI (rY r)), .int (rA r), .int (rB r), .int (if (rAns r) = (-1) ∧ ¬ (Prod.snd (sDoes (mS (Prod.fst x)) g.2.2 (rC r) (rK r) (rY r) (rA r) (rB r))) = (-1) then (Prod.snd (sDoes (mS (Prod.fst x)) g.2.2 (rC r) (rK r) (rY r) (rA r) (rB r))) else (rRes r)), .int (rSent r), .int (if (rAns r) = (-1) ∧ ¬ (Prod.snd (sDoes (mS (Prod.fst x)) g.2.2 (rC r) (rK r) (rY r) (rA r) (rB r))) = (-1) then nw else (rAns r)), .int (rTimes r)])] ++ (RS E (List.drop (j + 1) rr189)))) = wq217 at hRL216 ⊢
                refine g_pk [1, 8, 8, 3, 3, 6, 1] rfl ?_
                refine g_cs (cs1 := [[(m, ob 8 [.int (nI (mN (Prod.fst x))), .ref rn164, .ref rk165, .ref rl166, .ref rs167, .ref rst168, .int (mR (Prod.fst x)), .int (mVt (Prod.fst x)), .int (nI (mSu (Prod.fst x))), .int (nI (mDn (Prod.fst x) + 1)), .int (bI (mLz (Prod.fst x)))])], [(rn164, iA (aC E 0) 5 fn169)], [(rk165, iA (aC E 0) 5 fk170)], [(rl166, ob 9 [.ref la178, .int (lT (mL (Prod.fst x))), .int (lV (mL (Prod.fst x))), .int (nI (lB (mL (Prod.fst x)))), .int (lBT (mL (Prod.fst x))), .ref sp179])], wl171, ws172, w1198, wq217, wr, fz, [(n, ob 1 [.ref lm, .ref lb, .ref lr, .int lo, .int nw])], wm]) rfl ?_
                refine g_fl (cs1 := [((m, ob 8 [.int (nI (mN (Prod.fst x))), .ref rn164, .ref rk165, .ref rl166, .ref rs167, .ref rst168, .int (mR (Prod.fst x)), .int (mVt (Prod.fst x)), .int (nI (mSu (Prod.fst x))), .int (nI (mDn (Prod.fst x) + 1)), .int (bI (mLz (Prod.fst x)))]) :: (rn164, iA (aC E 0) 5 fn169) :: (rk165, iA (aC E 0) 5 fk170) :: (((rl166, ob 9 [.ref la178, .int (lT (mL (Prod.fst x))), .int (lV (mL (Prod.fst x))), .int (nI (lB (mL (Prod.fst x)))), .int (lBT (mL (Prod.fst x))), .ref sp179]) :: wl171) ++ (ws172 ++ w1198))), wq217, wr, fz, [(n, ob 1 [.ref lm, .ref lb, .ref lr, .int lo, .int nw])], wm]) (by simp only [List.flatten_cons, List.flatten_nil, List.cons_append, List.append_assoc, List.nil_append, List.append_nil]) ?_
                have hM218 : IsMach E fz m (setS (setDn (Prod.fst x) (mDn (Prod.fst x) + 1)) (Prod.fst (sDoes (mS (Prod.fst x)) g.2.2 (rC r) (rK r) (rY r) (rA r) (rB r)))) ((m, ob 8 [.int (nI (mN (Prod.fst x))), .ref rn164, .ref rk165, .ref rl166, .ref rs167, .ref rst168, .int (mR (Prod.fst x)), .int (mVt (Prod.fst x)), .int (nI (mSu (Prod.fst x))), .int (nI (mDn (Prod.fst x) + 1)), .int (bI (mLz (Prod.fst x)))]) :: (rn164, iA (aC E 0) 5 fn169) :: (rk165, iA (aC E 0) 5 fk170) :: (((rl166, ob 9 [.ref la178, .int (lT (mL (Prod.fst x))), .int (lV (mL (Prod.fst x))), .int (nI (lB (mL (Prod.fst x)))), .int (lBT (mL (Prod.fst x))), .ref sp179]) :: wl171) ++ (ws172 ++ w1198))) := ⟨_, _, _, _, _, _, _, _, _, _, hn174, ⟨_, _, _, _, hE181, hges182, hsp183, rfl⟩, hV176, ⟨_, h199⟩, rfl⟩
                generalize ((m, ob 8 [.int (nI (mN (Prod.fst x))), .ref rn164, .ref rk165, .ref rl166, .ref rs167, .ref rst168, .int (mR (Prod.fst x)), .int (mVt (Prod.fst x)), .int (nI (mSu (Prod.fst x))), .int (nI (mDn (Prod.fst x) + 1)), .int (bI (mLz (Prod.fst x)))]) :: (rn164, iA (aC E 0) 5 fn169) :: (rk165, iA (aC E 0) 5 fk170) :: (((rl166, ob 9 [.ref la178, .int (lT (mL (Prod.fst x))), .int (lV (mL (Prod.fst x))), .int (nI (lB (mL (Prod.fst x)))), .int (lBT (mL (Prod.fst x))), .ref sp179]) :: wl171) ++ (ws172 ++ w1198))) = wk219 at hM218 ⊢
                have h220 : IsMach E fz m (Prod.fst (doStep nw x)) wk219 := by rw [hds]; exact hM218
                have h221 : RL E lr (Prod.snd (doStep nw x)) wr wq217 := by rw [hds]; exact hRL216
                refine g_goto hX (pc := 115) (tgt := 12) dX2_settle_115 rfl ?_
                refine g_pk [4, 4, 0, 1, 0, 0] rfl ?_
                refine g_cs (cs1 := [[(n, ob 1 [.ref lm, .ref lb, .ref lr, .int lo, .int nw])], wm, wk219, wr, wq217, fz]) rfl ?_
                refine g_lv (lv1 := [(0, .ref n), (1, .ref m)]) [3, 4] rfl ?_
                refine g_widen (kc1 := 0) (ks1 := 0) (by omega) (by omega) ?_
                exact ih2 (doStep nw x) wk219 wq217 (by omega) (hI2) (hG2) (⟨hSt.2.2.trans hx3.1, doStep_Lz.trans hx3.2⟩) h220 h221
    refine g_pk [0, 0, 0, 1, 1, 0] rfl ?_
    refine g_cs (cs1 := [[(n, ob 1 [.ref lm, .ref lb, .ref lr, .int lo, .int nw])], wm, w1112, wr, wq, fz]) rfl ?_
    refine g_widen (kc1 := 0) (ks1 := 0) (by omega) (by omega) ?_
    exact lp115 ((mSu (sureOf (List.length mas) M) - mDn (Prod.fst (en3 (sureOf (List.length mas) M) R))) + 1) (en3 (sureOf (List.length mas) M) R) w1112 wq (Nat.lt_succ_self _) (hI0) (rfl) (⟨rfl, rfl⟩) (h114) (hRq)

set_option maxHeartbeats 4000000 in
theorem mt_Net_stand (E : EE) (l : Launch) (n : Nat) (lm : Nat) (lb : Nat) (lr : Nat) (nw : Int32) (mas : List Nat) (wm : va_W) (m : Nat) (M : PM) (wk : va_W) (fz : va_W) (B : PB) (wb : va_W) (R : List PR) (wr : va_W) (wq : va_W) (b : Nat) (hA : AL E lm mas wm) (hM : IsMach E fz m M wk) (hB : BL E fz lb (Prod.fst B) wb) (hRq : RL E lr R wr wq) (hok : (mOK (List.length mas) (List.length R) b M)) (hrq : (rqOK R)) (hb : (b ≤ 32)) (hn : (List.length (Prod.fst B) ≤ 30)) : Mt E l yX2_stand cX2_stand 4 none 10 (28 + 3 * List.length mas) (631 + 80 * List.length mas) 237 [.ref n, .ref m] [[(n, ob 1 [.ref lm, .ref lb, .ref lr, .int (Prod.snd B), .int nw])], wm, wk, wb, wr, wq, fz] (fun (v_ : Option Value) (cs_ : List va_W) => ∃ (fz1 : va_W) (w1 : va_W) (w2 : va_W) (w3 : va_W), Ext E fz fz1 ∧ IsMach E fz1 m (Prod.fst (settle (List.length mas) nw (Prod.fst (standIf (List.length mas) M B)) R)) w1 ∧ BL E fz1 lb (Prod.fst (Prod.snd (standIf (List.length mas) M B))) w2 ∧ RL E lr (Prod.snd (settle (List.length mas) nw (Prod.fst (standIf (List.length mas) M B)) R)) wr w3 ∧ v_ = none ∧ cs_ = [[(n, ob 1 [.ref lm, .ref lb, .ref lr, .int (Prod.snd (Prod.snd (standIf (List.length mas) M B))), .int nw])], wm, w1, w2, wr, w3, fz1]) := by
  have hok1 := hok
  have hmc : mN (mCand M) = mN M := rfl
  obtain ⟨⟨o1, o2⟩, ⟨o3, o4⟩, ⟨o5, o6, o7, o8⟩, ⟨o9, o10⟩, o11, o12⟩ := hok
  have hll : lLast (mL M) = lB (mL M) + (lE (mL M)).length := rfl
  have hrl := hrq.1
  refine Mt.of (by decide) (Nat.le_of_ble_eq_true rfl) (fun X hX hR hin => ?_)
  refine g_lv1 (lv1 := [(0, .ref n), (1, .ref m)]) rfl ?_
  obtain ⟨rn1, rk2, rl3, rs4, rst5, fn6, fk7, wl8, ws9, wst10, hn11, hL12, hV13, hS14, rfl⟩ := hM
  obtain ⟨la15, sp16, ges17, wl8, hE18, hges19, hsp20, rfl⟩ := hL12
  refine g_fl (cs1 := [[(n, ob 1 [.ref lm, .ref lb, .ref lr, .int (Prod.snd B), .int nw])], wm, [(m, ob 8 [.int (nI (mN M)), .ref rn1, .ref rk2, .ref rl3, .ref rs4, .ref rst5, .int (mR M), .int (mVt M), .int (nI (mSu M)), .int (nI (mDn M)), .int (bI (mLz M))])], [(rn1, iA (aC E 0) 5 fn6)], [(rk2, iA (aC E 0) 5 fk7)], [(rl3, ob 9 [.ref la15, .int (lT (mL M)), .int (lV (mL M)), .int (nI (lB (mL M))), .int (lBT (mL M)), .ref sp16])], wl8, ws9, wst10, wb, wr, wq, fz]) (by simp only [List.flatten_cons, List.flatten_nil, List.cons_append, List.append_assoc, List.nil_append, List.append_nil]) ?_
  have hl_ges17 : List.length ges17 = List.length (lE (mL M)) := by rw [← hges19, List.length_map]
  refine g_aload_n hX (pc := 0) dX2_stand_0 1 rfl ?_
  refine g_getN hX (pc := 1) fcX9 2 rfl 3 (by decide) q933 rfl (v := .ref rl3) rfl dX2_stand_1 ?_
  refine g_dup hX (pc := 4) dX2_stand_4 rfl ?_
  refine g_getN hX (pc := 5) fcX10 5 rfl 1 (by decide) q844 rfl (v := .int (lT (mL M))) rfl dX2_stand_5 ?_
  refine g_iconst hX (pc := 8) (v := 1) dX2_stand_8 (by decide) ?_
  refine g_iadd hX (pc := 9) dX2_stand_9 ?_
  refine g_putN hX (pc := 10) fcX10 5 (fs1 := [.ref la15, .int ((lT (mL M)) + 1), .int (lV (mL M)), .int (nI (lB (mL M))), .int (lBT (mL M)), .ref sp16]) (cs1 := [[(n, ob 1 [.ref lm, .ref lb, .ref lr, .int (Prod.snd B), .int nw])], wm, [(m, ob 8 [.int (nI (mN M)), .ref rn1, .ref rk2, .ref rl3, .ref rs4, .ref rst5, .int (mR M), .int (mVt M), .int (nI (mSu M)), .int (nI (mDn M)), .int (bI (mLz M))])], [(rn1, iA (aC E 0) 5 fn6)], [(rk2, iA (aC E 0) 5 fk7)], [(rl3, ob 9 [.ref la15, .int ((lT (mL M)) + 1), .int (lV (mL M)), .int (nI (lB (mL M))), .int (lBT (mL M)), .ref sp16])], wl8, ws9, wst10, wb, wr, wq, fz]) rfl 1 (by decide) q844 rfl rfl rfl rfl (Nat.le_of_ble_eq_true rfl) rfl rfl dX2_stand_10 ?_
  refine g_aload_n hX (pc := 13) dX2_stand_13 1 rfl ?_
  refine g_getN hX (pc := 14) fcX9 2 rfl 3 (by decide) q933 rfl (v := .ref rl3) rfl dX2_stand_14 ?_
  refine g_aload_n hX (pc := 17) dX2_stand_17 1 rfl ?_
  refine g_getN hX (pc := 18) fcX9 2 rfl 0 (by decide) q926 rfl (v := .int (nI (mN M))) rfl dX2_stand_18 ?_
  refine g_putN hX (pc := 21) fcX10 5 (fs1 := [.ref la15, .int ((lT (mL M)) + 1), .int (nI (mN M)), .int (nI (lB (mL M))), .int (lBT (mL M)), .ref sp16]) (cs1 := [[(n, ob 1 [.ref lm, .ref lb, .ref lr, .int (Prod.snd B), .int nw])], wm, [(m, ob 8 [.int (nI (mN M)), .ref rn1, .ref rk2, .ref rl3, .ref rs4, .ref rst5, .int (mR M), .int (mVt M), .int (nI (mSu M)), .int (nI (mDn M)), .int (bI (mLz M))])], [(rn1, iA (aC E 0) 5 fn6)], [(rk2, iA (aC E 0) 5 fk7)], [(rl3, ob 9 [.ref la15, .int ((lT (mL M)) + 1), .int (nI (mN M)), .int (nI (lB (mL M))), .int (lBT (mL M)), .ref sp16])], wl8, ws9, wst10, wb, wr, wq, fz]) rfl 2 (by decide) q848 rfl rfl rfl rfl (Nat.le_of_ble_eq_true rfl) rfl rfl dX2_stand_21 ?_
  refine g_aload_n hX (pc := 24) dX2_stand_24 1 rfl ?_
  refine g_iconst hX (pc := 25) (v := 2) dX2_stand_25 (by decide) ?_
  refine g_putN hX (pc := 26) fcX9 2 (fs1 := [.int (nI (mN M)), .ref rn1, .ref rk2, .ref rl3, .ref rs4, .ref rst5, .int 2, .int (mVt M), .int (nI (mSu M)), .int (nI (mDn M)), .int (bI (mLz M))]) (cs1 := [[(n, ob 1 [.ref lm, .ref lb, .ref lr, .int (Prod.snd B), .int nw])], wm, [(m, ob 8 [.int (nI (mN M)), .ref rn1, .ref rk2, .ref rl3, .ref rs4, .ref rst5, .int 2, .int (mVt M), .int (nI (mSu M)), .int (nI (mDn M)), .int (bI (mLz M))])], [(rn1, iA (aC E 0) 5 fn6)], [(rk2, iA (aC E 0) 5 fk7)], [(rl3, ob 9 [.ref la15, .int ((lT (mL M)) + 1), .int (nI (mN M)), .int (nI (lB (mL M))), .int (lBT (mL M)), .ref sp16])], wl8, ws9, wst10, wb, wr, wq, fz]) rfl 6 (by decide) q941 rfl rfl rfl rfl (Nat.le_of_ble_eq_true rfl) rfl rfl dX2_stand_26 ?_
  refine g_aload_n hX (pc := 29) dX2_stand_29 1 rfl ?_
  refine g_iconst hX (pc := 30) (v := 1) dX2_stand_30 (by decide) ?_
  refine g_aload_n hX (pc := 31) dX2_stand_31 1 rfl ?_
  refine g_getN hX (pc := 32) fcX9 2 rfl 0 (by decide) q926 rfl (v := .int (nI (mN M))) rfl dX2_stand_32 ?_
  refine g_ishl hX (pc := 35) dX2_stand_35 ?_
  refine g_putN hX (pc := 36) fcX9 2 (fs1 := [.int (nI (mN M)), .ref rn1, .ref rk2, .ref rl3, .ref rs4, .ref rst5, .int 2, .int (1 <<< ((nI (mN M)) &&& 31)), .int (nI (mSu M)), .int (nI (mDn M)), .int (bI (mLz M))]) (cs1 := [[(n, ob 1 [.ref lm, .ref lb, .ref lr, .int (Prod.snd B), .int nw])], wm, [(m, ob 8 [.int (nI (mN M)), .ref rn1, .ref rk2, .ref rl3, .ref rs4, .ref rst5, .int 2, .int (1 <<< ((nI (mN M)) &&& 31)), .int (nI (mSu M)), .int (nI (mDn M)), .int (bI (mLz M))])], [(rn1, iA (aC E 0) 5 fn6)], [(rk2, iA (aC E 0) 5 fk7)], [(rl3, ob 9 [.ref la15, .int ((lT (mL M)) + 1), .int (nI (mN M)), .int (nI (lB (mL M))), .int (lBT (mL M)), .ref sp16])], wl8, ws9, wst10, wb, wr, wq, fz]) rfl 7 (by decide) q943 rfl rfl rfl rfl (Nat.le_of_ble_eq_true rfl) rfl rfl dX2_stand_36 ?_
  refine g_aload_n hX (pc := 39) dX2_stand_39 1 rfl ?_
  refine g_getN hX (pc := 40) fcX9 2 rfl 3 (by decide) q933 rfl (v := .ref rl3) rfl dX2_stand_40 ?_
  refine g_callV hX (pc := 43) kX10_last (mt_Log_last E l rl3 la15 ((lT (mL M)) + 1) (nI (mN M)) (lB (mL M)) (lBT (mL M)) sp16 fz ges17 wl8 hE18) q235 fcX10 (sp_mem (i := 5) rfl) [5, 5] rfl rfl rfl (Nat.le_of_ble_eq_true rfl) (Nat.le_of_ble_eq_true rfl) (Nat.le_of_ble_eq_true rfl) (by omega) (by omega) dX2_stand_43 (fun v w1 hp => ?_)
  obtain ⟨rfl, rfl⟩ := hp
  refine g_nrm (cs1 := [[(rl3, ob 9 [.ref la15, .int ((lT (mL M)) + 1), .int (nI (mN M)), .int (nI (lB (mL M))), .int (lBT (mL M)), .ref sp16])], wl8, [(n, ob 1 [.ref lm, .ref lb, .ref lr, .int (Prod.snd B), .int nw])], wm, [(m, ob 8 [.int (nI (mN M)), .ref rn1, .ref rk2, .ref rl3, .ref rs4, .ref rst5, .int 2, .int (1 <<< ((nI (mN M)) &&& 31)), .int (nI (mSu M)), .int (nI (mDn M)), .int (bI (mLz M))])], [(rn1, iA (aC E 0) 5 fn6)], [(rk2, iA (aC E 0) 5 fk7)], ws9, wst10, wb, wr, wq, fz]) (st1 := [.int (nI ((lB (mL M)) + List.length ges17))]) rfl rfl ?_
  refine g_eqi (nI (lLast (mL M))) (by rw [hl_ges17]) ?_
  refine g_istore_n hX (pc := 46) (lv1 := [(2, .int (nI (lLast (mL M)))), (0, .ref n), (1, .ref m)]) dX2_stand_46 (by decide) rfl ?_
  refine g_pk [4, 4, 4, 0, 0, 2, 2] rfl ?_
  refine g_cs (cs1 := [[(m, ob 8 [.int (nI (mN M)), .ref rn1, .ref rk2, .ref rl3, .ref rs4, .ref rst5, .int 2, .int (1 <<< ((nI (mN M)) &&& 31)), .int (nI (mSu M)), .int (nI (mDn M)), .int (bI (mLz M))])], [(rn1, iA (aC E 0) 5 fn6)], [(rk2, iA (aC E 0) 5 fk7)], [(rl3, ob 9 [.ref la15, .int ((lT (mL M)) + 1), .int (nI (mN M)), .int (nI (lB (mL M))), .int (lBT (mL M)), .ref sp16])], wl8, ws9, wst10, [(n, ob 1 [.ref lm, .ref lb, .ref lr, .int (Prod.snd B), .int nw])], wm, wb, wr, wq, fz]) rfl ?_
  refine g_fl (cs1 := [((m, ob 8 [.int (nI (mN M)), .ref rn1, .ref rk2, .ref rl3, .ref rs4, .ref rst5, .int 2, .int (1 <<< ((nI (mN M)) &&& 31)), .int (nI (mSu M)), .int (nI (mDn M)), .int (bI (mLz M))]) :: (rn1, iA (aC E 0) 5 fn6) :: (rk2, iA (aC E 0) 5 fk7) :: (((rl3, ob 9 [.ref la15, .int ((lT (mL M)) + 1), .int (nI (mN M)), .int (nI (lB (mL M))), .int (lBT (mL M)), .ref sp16]) :: wl8) ++ (ws9 ++ wst10))), [(n, ob 1 [.ref lm, .ref lb, .ref lr, .int (Prod.snd B), .int nw])], wm, wb, wr, wq, fz]) (by simp only [List.flatten_cons, List.flatten_nil, List.cons_append, List.append_assoc, List.nil_append, List.append_nil]) ?_
  have hM21 : IsMach E fz m (mCand M) ((m, ob 8 [.int (nI (mN M)), .ref rn1, .ref rk2, .ref rl3, .ref rs4, .ref rst5, .int 2, .int (1 <<< ((nI (mN M)) &&& 31)), .int (nI (mSu M)), .int (nI (mDn M)), .int (bI (mLz M))]) :: (rn1, iA (aC E 0) 5 fn6) :: (rk2, iA (aC E 0) 5 fk7) :: (((rl3, ob 9 [.ref la15, .int ((lT (mL M)) + 1), .int (nI (mN M)), .int (nI (lB (mL M))), .int (lBT (mL M)), .ref sp16]) :: wl8) ++ (ws9 ++ wst10))) := ⟨_, _, _, _, _, _, _, _, _, _, hn11, ⟨_, _, _, _, hE18, hges19, hsp20, rfl⟩, hV13, hS14, rfl⟩
  generalize ((m, ob 8 [.int (nI (mN M)), .ref rn1, .ref rk2, .ref rl3, .ref rs4, .ref rst5, .int 2, .int (1 <<< ((nI (mN M)) &&& 31)), .int (nI (mSu M)), .int (nI (mDn M)), .int (bI (mLz M))]) :: (rn1, iA (aC E 0) 5 fn6) :: (rk2, iA (aC E 0) 5 fk7) :: (((rl3, ob 9 [.ref la15, .int ((lT (mL M)) + 1), .int (nI (mN M)), .int (nI (lB (mL M))), .int (lBT (mL M)), .ref sp16]) :: wl8) ++ (ws9 ++ wst10))) = wk22 at hM21 ⊢
  refine g_iconst hX (pc := 47) (v := 0) dX2_stand_47 (by decide) ?_
  refine g_eqi (nI 0) (nI_0.symm) ?_
  refine g_istore_n hX (pc := 48) (lv1 := [(3, .int (nI 0)), (2, .int (nI (lLast (mL M)))), (0, .ref n), (1, .ref m)]) dX2_stand_48 (by decide) rfl ?_
  have lp23 : ∀ (F1 : Nat) (i : Nat) (fzL : va_W) (wkL : va_W) (wbL : va_W), List.length mas - i < F1 → (i ≤ List.length mas) → Ext E fz fzL → IsMach E fzL m (mCand M) wkL → BL E fzL lb (Prod.fst (toAll (mAsk (mCand M)) (mN (mCand M)) B i)) wbL → G E l X [[(n, ob 1 [.ref lm, .ref lb, .ref lr, .int (Prod.snd (toAll (mAsk (mCand M)) (mN (mCand M)) B i)), .int nw])], wm, wkL, wbL, wr, wq, fzL] (0 + 3 * i) (0 + 80 * i) 49 [(3, .int (nI i)), (2, .int (nI (lLast (mL M)))), (0, .ref n), (1, .ref m)] [] := by
    intro F1
    induction F1 with
    | zero =>
      intro i fzL wkL wbL hF hi hxL hML hBL
      exact absurd hF (Nat.not_lt_zero _)
    | succ F1 ih1 =>
      intro i fzL wkL wbL hF hi hxL hML hBL
      refine g_iload_n hX (pc := 49) dX2_stand_49 0 rfl ?_
      refine g_aload_n hX (pc := 50) dX2_stand_50 2 rfl ?_
      refine g_get hX (pc := 51) fcX2 0 rfl 0 (by decide) q155 rfl (v := .ref lm) rfl dX2_stand_51 ?_
      obtain ⟨fs24, hm25⟩ := AL.head hA
      refine g_callF hX (pc := 54) kfJ2_size (mt_AL_size E l lm mas wm hA) q189 fcJ2 (sp_in 1 rfl hm25) [1] rfl rfl rfl (Nat.le_of_ble_eq_true rfl) (Nat.le_of_ble_eq_true rfl) (Nat.le_of_ble_eq_true rfl) (by omega) (by omega) dX2_stand_54 (fun v w1 hp => ?_)
      obtain ⟨rfl, rfl⟩ := hp
      refine g_nrm (cs1 := [wm, [(n, ob 1 [.ref lm, .ref lb, .ref lr, .int (Prod.snd (toAll (mAsk (mCand M)) (mN (mCand M)) B i)), .int nw])], wkL, wbL, wr, wq, fzL]) (st1 := [.int (nI (List.length mas)), .int (nI i)]) rfl rfl ?_
      refine g_icmp_ge hX (pc := 59) (tgt := 101) dX2_stand_59 rfl (fun c26 => ?_) (fun c26 => ?_)
      · have d1 : i = List.length mas := by
          have := (nI_leI (by omega) (by omega)).mp c26
          omega
        have hlc := ldC_le (sz := List.length mas) (v := mVt (mCand M)) o2
        have ht27 : List.length mas = i := d1.symm
        refine g_cs (cs1 := [wm, [(n, ob 1 [.ref lm, .ref lb, .ref lr, .int (Prod.snd (toAll (mAsk (mCand M)) (mN (mCand M)) B (List.length mas))), .int nw])], wkL, wbL, wr, wq, fzL]) (by rw [ht27]) ?_
        refine g_lv1 (lv1 := [(3, .int (nI (List.length mas))), (2, .int (nI (lLast (mL M)))), (0, .ref n), (1, .ref m)]) (by rw [ht27]) ?_
        have h28 : BL E fzL lb (Prod.fst (toAll (mAsk (mCand M)) (mN (mCand M)) B (List.length mas))) wbL := by rw [ht27]; exact hBL
        refine g_aload_n hX (pc := 101) dX2_stand_101 2 rfl ?_
        refine g_aload_n hX (pc := 102) dX2_stand_102 3 rfl ?_
        refine g_callV hX (pc := 103) kX2_leadIf (mt_Net_leadIf E l n lm lb lr nw mas wm m (mCand M) wkL fzL (toAll (mAsk (mCand M)) (mN (mCand M)) B (List.length mas)) wbL hA (o2) hML h28 (by show lLast (mL M) ≤ 55; omega) (by show mN M < 5; omega) (toAll_le hn _)) q1102 fcX2 (sp_mem (i := 1) rfl) [1, 0, 0, 0, 2] rfl rfl rfl (Nat.le_of_ble_eq_true rfl) (Nat.le_of_ble_eq_true rfl) (Nat.le_of_ble_eq_true rfl) (by omega) (by omega) dX2_stand_103 (fun v w1 hp => ?_)
        obtain ⟨fz129, w130, w231, h32, h33, h34, rfl, rfl⟩ := hp
        refine g_nrm (cs1 := [[(n, ob 1 [.ref lm, .ref lb, .ref lr, .int (Prod.snd (Prod.snd (leadIf (List.length mas) (mCand M) (toAll (mAsk (mCand M)) (mN (mCand M)) B (List.length mas))))), .int nw])], w130, wm, w231, fz129, wr, wq]) (st1 := []) rfl rfl ?_
        have h35 := IsMach.mono h32 hML
        have h36 := BL.mono h32 h28
        have ht37 : standIf (List.length mas) M B = leadIf (List.length mas) (mCand M) (toAll (mAsk (mCand M)) (mN (mCand M)) B (List.length mas)) := rfl
        refine g_cs (cs1 := [[(n, ob 1 [.ref lm, .ref lb, .ref lr, .int (Prod.snd (Prod.snd (standIf (List.length mas) M B))), .int nw])], w130, wm, w231, fz129, wr, wq]) (by rw [ht37]) ?_
        have h38 : IsMach E fz129 m (Prod.fst (standIf (List.length mas) M B)) w130 := by rw [ht37]; exact h33
        have h39 : BL E fz129 lb (Prod.fst (Prod.snd (standIf (List.length mas) M B))) w231 := by rw [ht37]; exact h34
        have hok2 := standIf_ok (B := B) hok1
        refine g_aload_n hX (pc := 106) dX2_stand_106 2 rfl ?_
        refine g_aload_n hX (pc := 107) dX2_stand_107 3 rfl ?_
        refine g_callV hX (pc := 108) kX2_settle (mt_Net_settle E l n lm lb lr (Prod.snd (Prod.snd (standIf (List.length mas) M B))) nw mas wm m (Prod.fst (standIf (List.length mas) M B)) w130 fz129 R wr wq (b + 1) hA h38 hRq (hok2) (hrq) (by omega)) q1139 fcX2 (sp_mem (i := 0) rfl) [0, 1, 0, 2, 2, 1] rfl rfl rfl (Nat.le_of_ble_eq_true rfl) (Nat.le_of_ble_eq_true rfl) (Nat.le_of_ble_eq_true rfl) (by omega) (by omega) dX2_stand_108 (fun v w1 hp => ?_)
        obtain ⟨w140, w241, h42, h43, rfl, rfl⟩ := hp
        refine g_nrm (cs1 := [[(n, ob 1 [.ref lm, .ref lb, .ref lr, .int (Prod.snd (Prod.snd (standIf (List.length mas) M B))), .int nw])], wm, w140, wr, w241, fz129, w231]) (st1 := []) rfl rfl ?_
        refine g_pk [0, 0, 0, 3, 0, 0, 0] rfl ?_
        refine g_cs (cs1 := [[(n, ob 1 [.ref lm, .ref lb, .ref lr, .int (Prod.snd (Prod.snd (standIf (List.length mas) M B))), .int nw])], wm, w140, w231, wr, w241, fz129]) rfl ?_
        refine g_vret hX (pc := 111) hR ?_ (by omega) (by omega) dX2_stand_111
        exact ⟨_, _, _, _, (Ext.tr hxL h32), h42, h39, h43, rfl, rfl⟩
      · have d1 : i < List.length mas := by
          have := mt (nI_leI (by omega) (by omega)).mpr c26
          omega
        have hle := toAll_le (f := mAsk (mCand M)) (me := mN M) hn i
        obtain ⟨rn44, rk45, rl46, rs47, rst48, la49, sp50, hpk51, hpl52⟩ := hML.peek
        refine g_iload_n hX (pc := 62) dX2_stand_62 0 rfl ?_
        refine g_aload_n hX (pc := 63) dX2_stand_63 3 rfl ?_
        refine g_getNm hX (pc := 64) fcX9 (sp_in 2 rfl hpk51) 0 (by decide) q926 rfl (v := .int (nI (mN (mCand M)))) rfl dX2_stand_64 ?_
        refine g_icmp_eq hX (pc := 67) (tgt := 95) dX2_stand_67 rfl (fun c53 => ?_) (fun c53 => ?_)
        · have d2 : i = mN (mCand M) := (nI_eq (by omega) (by omega)).mp c53
          have ht54 : toAll (mAsk (mCand M)) (mN (mCand M)) B (i + 1) = toAll (mAsk (mCand M)) (mN (mCand M)) B i := toAll_p d2
          refine g_cs (cs1 := [wm, [(n, ob 1 [.ref lm, .ref lb, .ref lr, .int (Prod.snd (toAll (mAsk (mCand M)) (mN (mCand M)) B (i + 1))), .int nw])], wkL, wbL, wr, wq, fzL]) (by rw [ht54]) ?_
          have h55 : BL E fzL lb (Prod.fst (toAll (mAsk (mCand M)) (mN (mCand M)) B (i + 1))) wbL := by rw [ht54]; exact hBL
          refine g_iinc hX (pc := 95) (v := nI (i + 1)) (lv1 := [(3, .int (nI (i + 1))), (2, .int (nI (lLast (mL M)))), (0, .ref n), (1, .ref m)]) dX2_stand_95 0 rfl (nI_1 _) (by decide) rfl ?_
          refine g_goto hX (pc := 98) (tgt := 49) dX2_stand_98 rfl ?_
          refine g_pk [1, 0, 0, 0, 0, 0, 0] rfl ?_
          refine g_cs (cs1 := [[(n, ob 1 [.ref lm, .ref lb, .ref lr, .int (Prod.snd (toAll (mAsk (mCand M)) (mN (mCand M)) B (i + 1))), .int nw])], wm, wkL, wbL, wr, wq, fzL]) rfl ?_
          refine g_widen (kc1 := 0 + 3 * (i + 1)) (ks1 := 0 + 80 * (i + 1)) (by omega) (by omega) ?_
          exact ih1 (i + 1) fzL wkL wbL (by omega) (by omega) hxL hML h55
        · have d2 : ¬ i = mN (mCand M) := mt (nI_eq (by omega) (by omega)).mpr c53
          obtain ⟨rn56, rk57, rl58, rs59, rst60, fn61, fk62, wl63, ws64, wst65, hn66, hL67, hV68, hS69, rfl⟩ := hML
          obtain ⟨la70, sp71, ges72, wl63, hE73, hges74, hsp75, rfl⟩ := hL67
          refine g_fl (cs1 := [wm, [(n, ob 1 [.ref lm, .ref lb, .ref lr, .int (Prod.snd (toAll (mAsk (mCand M)) (mN (mCand M)) B i)), .int nw])], [(m, ob 8 [.int (nI (mN (mCand M))), .ref rn56, .ref rk57, .ref rl58, .ref rs59, .ref rst60, .int (mR (mCand M)), .int (mVt (mCand M)), .int (nI (mSu (mCand M))), .int (nI (mDn (mCand M))), .int (bI (mLz (mCand M)))])], [(rn56, iA (aC E 0) 5 fn61)], [(rk57, iA (aC E 0) 5 fk62)], [(rl58, ob 9 [.ref la70, .int (lT (mL (mCand M))), .int (lV (mL (mCand M))), .int (nI (lB (mL (mCand M)))), .int (lBT (mL (mCand M))), .ref sp71])], wl63, ws64, wst65, wbL, wr, wq, fzL]) (by simp only [List.flatten_cons, List.flatten_nil, List.cons_append, List.append_assoc, List.nil_append, List.append_nil]) ?_
          have hl_ges72 : List.length ges72 = List.length (lE (mL (mCand M))) := by rw [← hges74, List.length_map]
          refine g_aload_n hX (pc := 70) dX2_stand_70 2 rfl ?_
          refine g_new hX (pc := 71) fcX13 q977 q1041 q99 (fs := [.null, .int 0, .int 0, .int 0, .int 0, .int 0, .int 0, .int 0, .null, .null]) (fun j hj => by match j, hj with | 0, _ => rfl | 1, _ => rfl | 2, _ => rfl | 3, _ => rfl | 4, _ => rfl | 5, _ => rfl | 6, _ => rfl | 7, _ => rfl | 8, _ => rfl | 9, _ => rfl | j + 10, h => exact absurd h (by omega)) (by omega) (by omega) dX2_stand_71 (fun q76 => ?_)
          refine g_dup hX (pc := 74) dX2_stand_74 rfl ?_
          refine g_gets hX (pc := 75) (v := .ref (aW E 0)) ((cx_gs hX).2.1.1 0 (by decide)).1 q1042 rfl dX2_stand_75 ?_
          refine g_iload_n hX (pc := 78) dX2_stand_78 0 rfl ?_
          refine g_aload_n hX (pc := 79) dX2_stand_79 3 rfl ?_
          refine g_iload_n hX (pc := 80) dX2_stand_80 1 rfl ?_
          refine g_aload_n hX (pc := 81) dX2_stand_81 3 rfl ?_
          refine g_getN hX (pc := 82) fcX9 3 rfl 3 (by decide) q933 rfl (v := .ref rl58) rfl dX2_stand_82 ?_
          refine g_iload_n hX (pc := 85) dX2_stand_85 1 rfl ?_
          obtain ⟨g77, hg78, ht79⟩ := tm_ex (L := (mL (mCand M))) (n := lLast (mL M)) hges74 (Nat.le_add_right _ _) (Nat.le_refl _)
          refine g_callV hX (pc := 86) kX10_termAt (mt_Log_termAt E l rl58 la70 (lT (mL (mCand M))) (lV (mL (mCand M))) (lB (mL (mCand M))) (lBT (mL (mCand M))) sp71 fzL ges72 wl63 (lLast (mL M)) g77 hE73 (hg78) (by omega) (by omega)) q1044 fcX10 (sp_mem (i := 6) rfl) [6, 6, 11] rfl rfl rfl (Nat.le_of_ble_eq_true rfl) (Nat.le_of_ble_eq_true rfl) (Nat.le_of_ble_eq_true rfl) (by omega) (by omega) dX2_stand_86 (fun v w1 hp => ?_)
          obtain ⟨rfl, rfl⟩ := hp
          refine g_nrm (cs1 := [[(rl58, ob 9 [.ref la70, .int (lT (mL (mCand M))), .int (lV (mL (mCand M))), .int (nI (lB (mL (mCand M)))), .int (lBT (mL (mCand M))), .ref sp71])], wl63, fzL, [(q76, ob 11 [.null, .int 0, .int 0, .int 0, .int 0, .int 0, .int 0, .int 0, .null, .null])], wm, [(n, ob 1 [.ref lm, .ref lb, .ref lr, .int (Prod.snd (toAll (mAsk (mCand M)) (mN (mCand M)) B i)), .int nw])], [(m, ob 8 [.int (nI (mN (mCand M))), .ref rn56, .ref rk57, .ref rl58, .ref rs59, .ref rst60, .int (mR (mCand M)), .int (mVt (mCand M)), .int (nI (mSu (mCand M))), .int (nI (mDn (mCand M))), .int (bI (mLz (mCand M)))])], [(rn56, iA (aC E 0) 5 fn61)], [(rk57, iA (aC E 0) 5 fk62)], ws64, wst65, wbL, wr, wq]) (st1 := [.int (if (lLast (mL M)) = (lB (mL (mCand M))) then (lBT (mL (mCand M))) else g77.2.1), .int (nI (lLast (mL M))), .ref m, .int (nI i), .ref (aW E 0), .ref q76, .ref q76, .ref n]) rfl rfl ?_
          refine g_eqi (lTmA (mL (mCand M)) (lLast (mL M))) (ht79) ?_
          refine g_callI hX (pc := 89) kX13_init (mt_Message_init E l q76 (aW E 0) (nI i) (nI (lLast (mL M))) (lTmA (mL (mCand M)) (lLast (mL M))) m (nI (mN (mCand M))) rn56 rk57 rl58 rs59 rst60 (mR (mCand M)) (mVt (mCand M)) (nI (mSu (mCand M))) (nI (mDn (mCand M))) (bI (mLz (mCand M))) la70 (lT (mL (mCand M))) (lV (mL (mCand M))) (lB (mL (mCand M))) (lBT (mL (mCand M))) sp71) q1049 [3, 5, 0] rfl rfl rfl (Nat.le_of_ble_eq_true rfl) (Nat.le_of_ble_eq_true rfl) (Nat.le_of_ble_eq_true rfl) (by omega) (by omega) dX2_stand_89 (fun v w1 hp => ?_)
          obtain ⟨ra80, rfl, rfl⟩ := hp
          refine g_nrm (cs1 := [[(q76, ob 11 [.ref (aW E 0), .int (nI (mN (mCand M))), .int (nI i), .int (lT (mL (mCand M))), .int (nI (lLast (mL M))), .int (lTmA (mL (mCand M)) (lLast (mL M))), .int 0, .int 0, .ref ra80, .ref sp71])], [(ra80, qA (aC E 3) 0 (fun _ => none))], [(m, ob 8 [.int (nI (mN (mCand M))), .ref rn56, .ref rk57, .ref rl58, .ref rs59, .ref rst60, .int (mR (mCand M)), .int (mVt (mCand M)), .int (nI (mSu (mCand M))), .int (nI (mDn (mCand M))), .int (bI (mLz (mCand M)))])], [(rl58, ob 9 [.ref la70, .int (lT (mL (mCand M))), .int (lV (mL (mCand M))), .int (nI (lB (mL (mCand M)))), .int (lBT (mL (mCand M))), .ref sp71])], wl63, fzL, wm, [(n, ob 1 [.ref lm, .ref lb, .ref lr, .int (Prod.snd (toAll (mAsk (mCand M)) (mN (mCand M)) B i)), .int nw])], [(rn56, iA (aC E 0) 5 fn61)], [(rk57, iA (aC E 0) 5 fk62)], ws64, wst65, wbL, wr, wq]) (st1 := [.ref q76, .ref n]) rfl rfl ?_
          refine g_pk [0, 0, 3] rfl ?_
          refine g_cs (cs1 := [[(q76, ob 11 [.ref (aW E 0), .int (nI (mN (mCand M))), .int (nI i), .int (lT (mL (mCand M))), .int (nI (lLast (mL M))), .int (lTmA (mL (mCand M)) (lLast (mL M))), .int 0, .int 0, .ref ra80, .ref sp71])], [(ra80, qA (aC E 3) 0 (fun _ => none))], fzL, [(m, ob 8 [.int (nI (mN (mCand M))), .ref rn56, .ref rk57, .ref rl58, .ref rs59, .ref rst60, .int (mR (mCand M)), .int (mVt (mCand M)), .int (nI (mSu (mCand M))), .int (nI (mDn (mCand M))), .int (bI (mLz (mCand M)))])], [(rl58, ob 9 [.ref la70, .int (lT (mL (mCand M))), .int (lV (mL (mCand M))), .int (nI (lB (mL (mCand M)))), .int (lBT (mL (mCand M))), .ref sp71])], wl63, wm, [(n, ob 1 [.ref lm, .ref lb, .ref lr, .int (Prod.snd (toAll (mAsk (mCand M)) (mN (mCand M)) B i)), .int nw])], [(rn56, iA (aC E 0) 5 fn61)], [(rk57, iA (aC E 0) 5 fk62)], ws64, wst65, wbL, wr, wq]) rfl ?_
          refine g_fl (cs1 := [((q76, ob 11 [.ref (aW E 0), .int (nI (mN (mCand M))), .int (nI i), .int (lT (mL (mCand M))), .int (nI (lLast (mL M))), .int (lTmA (mL (mCand M)) (lLast (mL M))), .int 0, .int 0, .ref ra80, .ref sp71]) :: ((ra80, qA (aC E 3) 0 (fun _ => none)) :: (fzL))), [(m, ob 8 [.int (nI (mN (mCand M))), .ref rn56, .ref rk57, .ref rl58, .ref rs59, .ref rst60, .int (mR (mCand M)), .int (mVt (mCand M)), .int (nI (mSu (mCand M))), .int (nI (mDn (mCand M))), .int (bI (mLz (mCand M)))])], [(rl58, ob 9 [.ref la70, .int (lT (mL (mCand M))), .int (lV (mL (mCand M))), .int (nI (lB (mL (mCand M)))), .int (lBT (mL (mCand M))), .ref sp71])], wl63, wm, [(n, ob 1 [.ref lm, .ref lb, .ref lr, .int (Prod.snd (toAll (mAsk (mCand M)) (mN (mCand M)) B i)), .int nw])], [(rn56, iA (aC E 0) 5 fn61)], [(rk57, iA (aC E 0) 5 fk62)], ws64, wst65, wbL, wr, wq]) (by simp only [List.flatten_cons, List.flatten_nil, List.cons_append, List.append_assoc, List.nil_append, List.append_nil]) ?_
          have hx82 : Ext E fzL ((q76, ob 11 [.ref (aW E 0), .int (nI (mN (mCand M))), .int (nI i), .int (lT (mL (mCand M))), .int (nI (lLast (mL M))), .int (lTmA (mL (mCand M)) (lLast (mL M))), .int 0, .int 0, .ref ra80, .ref sp71]) :: ((ra80, qA (aC E 3) 0 (fun _ => none)) :: (fzL))) := fun q hq => (List.mem_cons_of_mem _ (List.mem_cons_of_mem _ hq))
          have hm83 : (q76, ob 11 [.ref (aW E 0), .int (nI (mN (mCand M))), .int (nI i), .int (lT (mL (mCand M))), .int (nI (lLast (mL M))), .int (lTmA (mL (mCand M)) (lLast (mL M))), .int 0, .int 0, .ref ra80, .ref sp71]) ∈ ((q76, ob 11 [.ref (aW E 0), .int (nI (mN (mCand M))), .int (nI i), .int (lT (mL (mCand M))), .int (nI (lLast (mL M))), .int (lTmA (mL (mCand M)) (lLast (mL M))), .int 0, .int 0, .ref ra80, .ref sp71]) :: ((ra80, qA (aC E 3) 0 (fun _ => none)) :: (fzL))) := (List.mem_cons_self)
          have hm84 : (ra80, qA (aC E 3) 0 (fun _ => none)) ∈ ((q76, ob 11 [.ref (aW E 0), .int (nI (mN (mCand M))), .int (nI i), .int (lT (mL (mCand M))), .int (nI (lLast (mL M))), .int (lTmA (mL (mCand M)) (lLast (mL M))), .int 0, .int 0, .ref ra80, .ref sp71]) :: ((ra80, qA (aC E 3) 0 (fun _ => none)) :: (fzL))) := (List.mem_cons_of_mem _ (List.mem_cons_self))
          generalize ((q76, ob 11 [.ref (aW E 0), .int (nI (mN (mCand M))), .int (nI i), .int (lT (mL (mCand M))), .int (nI (lLast (mL M))), .int (lTmA (mL (mCand M)) (lLast (mL M))), .int 0, .int 0, .ref ra80, .ref sp71]) :: ((ra80, qA (aC E 3) 0 (fun _ => none)) :: (fzL))) = fz81 at hx82 hm83 hm84 ⊢
          have h85 := BL.mono hx82 hBL
          have h86 := EL.mono hx82 hE73
          have h87 := StIn.mono hx82 hsp75
          have h88 := IsLog.mono hx82 hV68
          have hmm89 : MsgIn E fz81 q76 (mAsk (mCand M) i) := ⟨_, _, [], _, hm83, hm84, by simp, rfl, by simp, h87⟩
          refine g_callV hX (pc := 92) kX2_send (mt_Net_send E l n lm lb lr nw (toAll (mAsk (mCand M)) (mN (mCand M)) B i) wbL fz81 q76 (mAsk (mCand M) i) h85 hmm89 (hle)) q1096 fcX2 (sp_mem (i := 5) rfl) [5, 9, 0] rfl rfl rfl (Nat.le_of_ble_eq_true rfl) (Nat.le_of_ble_eq_true rfl) (Nat.le_of_ble_eq_true rfl) (by omega) (by omega) dX2_stand_92 (fun v w1 hp => ?_)
          obtain ⟨w190, h91, rfl, rfl⟩ := hp
          refine g_nrm (cs1 := [[(n, ob 1 [.ref lm, .ref lb, .ref lr, .int (Prod.snd (bSend (toAll (mAsk (mCand M)) (mN (mCand M)) B i) (mAsk (mCand M) i))), .int nw])], w190, fz81, [(m, ob 8 [.int (nI (mN (mCand M))), .ref rn56, .ref rk57, .ref rl58, .ref rs59, .ref rst60, .int (mR (mCand M)), .int (mVt (mCand M)), .int (nI (mSu (mCand M))), .int (nI (mDn (mCand M))), .int (bI (mLz (mCand M)))])], [(rl58, ob 9 [.ref la70, .int (lT (mL (mCand M))), .int (lV (mL (mCand M))), .int (nI (lB (mL (mCand M)))), .int (lBT (mL (mCand M))), .ref sp71])], wl63, wm, [(rn56, iA (aC E 0) 5 fn61)], [(rk57, iA (aC E 0) 5 fk62)], ws64, wst65, wr, wq]) (st1 := []) rfl rfl ?_
          refine g_pk [3, 6, 6, 3, 3, 4, 4] rfl ?_
          refine g_cs (cs1 := [[(m, ob 8 [.int (nI (mN (mCand M))), .ref rn56, .ref rk57, .ref rl58, .ref rs59, .ref rst60, .int (mR (mCand M)), .int (mVt (mCand M)), .int (nI (mSu (mCand M))), .int (nI (mDn (mCand M))), .int (bI (mLz (mCand M)))])], [(rn56, iA (aC E 0) 5 fn61)], [(rk57, iA (aC E 0) 5 fk62)], [(rl58, ob 9 [.ref la70, .int (lT (mL (mCand M))), .int (lV (mL (mCand M))), .int (nI (lB (mL (mCand M)))), .int (lBT (mL (mCand M))), .ref sp71])], wl63, ws64, wst65, [(n, ob 1 [.ref lm, .ref lb, .ref lr, .int (Prod.snd (bSend (toAll (mAsk (mCand M)) (mN (mCand M)) B i) (mAsk (mCand M) i))), .int nw])], w190, fz81, wm, wr, wq]) rfl ?_
          refine g_fl (cs1 := [((m, ob 8 [.int (nI (mN (mCand M))), .ref rn56, .ref rk57, .ref rl58, .ref rs59, .ref rst60, .int (mR (mCand M)), .int (mVt (mCand M)), .int (nI (mSu (mCand M))), .int (nI (mDn (mCand M))), .int (bI (mLz (mCand M)))]) :: (rn56, iA (aC E 0) 5 fn61) :: (rk57, iA (aC E 0) 5 fk62) :: (((rl58, ob 9 [.ref la70, .int (lT (mL (mCand M))), .int (lV (mL (mCand M))), .int (nI (lB (mL (mCand M)))), .int (lBT (mL (mCand M))), .ref sp71]) :: wl63) ++ (ws64 ++ wst65))), [(n, ob 1 [.ref lm, .ref lb, .ref lr, .int (Prod.snd (bSend (toAll (mAsk (mCand M)) (mN (mCand M)) B i) (mAsk (mCand M) i))), .int nw])], w190, fz81, wm, wr, wq]) (by simp only [List.flatten_cons, List.flatten_nil, List.cons_append, List.append_assoc, List.nil_append, List.append_nil]) ?_
          have hM92 : IsMach E fz81 m (mCand M) ((m, ob 8 [.int (nI (mN (mCand M))), .ref rn56, .ref rk57, .ref rl58, .ref rs59, .ref rst60, .int (mR (mCand M)), .int (mVt (mCand M)), .int (nI (mSu (mCand M))), .int (nI (mDn (mCand M))), .int (bI (mLz (mCand M)))]) :: (rn56, iA (aC E 0) 5 fn61) :: (rk57, iA (aC E 0) 5 fk62) :: (((rl58, ob 9 [.ref la70, .int (lT (mL (mCand M))), .int (lV (mL (mCand M))), .int (nI (lB (mL (mCand M)))), .int (lBT (mL (mCand M))), .ref sp71]) :: wl63) ++ (ws64 ++ wst65))) := ⟨_, _, _, _, _, _, _, _, _, _, hn66, ⟨_, _, _, _, h86, hges74, h87, rfl⟩, h88, hS69, rfl⟩
          generalize ((m, ob 8 [.int (nI (mN (mCand M))), .ref rn56, .ref rk57, .ref rl58, .ref rs59, .ref rst60, .int (mR (mCand M)), .int (mVt (mCand M)), .int (nI (mSu (mCand M))), .int (nI (mDn (mCand M))), .int (bI (mLz (mCand M)))]) :: (rn56, iA (aC E 0) 5 fn61) :: (rk57, iA (aC E 0) 5 fk62) :: (((rl58, ob 9 [.ref la70, .int (lT (mL (mCand M))), .int (lV (mL (mCand M))), .int (nI (lB (mL (mCand M)))), .int (lBT (mL (mCand M))), .ref sp71]) :: wl63) ++ (ws64 ++ wst65))) = wk93 at hM92 ⊢
          have ht94 : toAll (mAsk (mCand M)) (mN (mCand M)) B (i + 1) = bSend (toAll (mAsk (mCand M)) (mN (mCand M)) B i) (mAsk (mCand M) i) := toAll_n d2
          refine g_cs (cs1 := [wk93, [(n, ob 1 [.ref lm, .ref lb, .ref lr, .int (Prod.snd (toAll (mAsk (mCand M)) (mN (mCand M)) B (i + 1))), .int nw])], w190, fz81, wm, wr, wq]) (by rw [ht94]) ?_
          have h95 : BL E fz81 lb (Prod.fst (toAll (mAsk (mCand M)) (mN (mCand M)) B (i + 1))) w190 := by rw [ht94]; exact h91
          refine g_iinc hX (pc := 95) (v := nI (i + 1)) (lv1 := [(3, .int (nI (i + 1))), (2, .int (nI (lLast (mL M)))), (0, .ref n), (1, .ref m)]) dX2_stand_95 0 rfl (nI_1 _) (by decide) rfl ?_
          refine g_goto hX (pc := 98) (tgt := 49) dX2_stand_98 rfl ?_
          refine g_pk [1, 3, 0, 0, 1, 1, 0] rfl ?_
          refine g_cs (cs1 := [[(n, ob 1 [.ref lm, .ref lb, .ref lr, .int (Prod.snd (toAll (mAsk (mCand M)) (mN (mCand M)) B (i + 1))), .int nw])], wm, wk93, w190, wr, wq, fz81]) rfl ?_
          refine g_widen (kc1 := 0 + 3 * (i + 1)) (ks1 := 0 + 80 * (i + 1)) (by omega) (by omega) ?_
          exact ih1 (i + 1) fz81 wk93 w190 (by omega) (by omega) (Ext.tr hxL hx82) hM92 h95
  refine g_pk [1, 1, 0, 0, 0, 0, 0] rfl ?_
  refine g_cs (cs1 := [[(n, ob 1 [.ref lm, .ref lb, .ref lr, .int (Prod.snd B), .int nw])], wm, wk22, wb, wr, wq, fz]) rfl ?_
  refine g_widen (kc1 := 0 + 3 * 0) (ks1 := 0 + 80 * 0) (by omega) (by omega) ?_
  exact lp23 ((List.length mas - 0) + 1) 0 fz wk22 wb (Nat.lt_succ_self _) (Nat.zero_le _) (Ext.rfl') hM21 (hB)
