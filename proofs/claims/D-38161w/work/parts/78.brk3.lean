set_option maxHeartbeats 4000000 in
theorem mt_History_isAsOne (E : EE) (l : Launch) (h : Nat) (ha : Nat) (tr : Nat) (f : Nat → Int64) (gl : List PR) (wh : va_W) (wq : va_W) (hw : HL E ha gl wq wh) (hl : (hOKl gl)) (hT : (TI gl f 0)) : Mt E l yX16_isAsOne cX16_isAsOne 1 (some .boolean) 14 0 0 333 [.ref h] [[(h, ob 14 [.ref ha, .ref tr])], [(tr, lA (aC E 1) 400 f)], wh, wq] (fun (v_ : Option Value) (cs_ : List va_W) => ∃ (f1 : Nat → Int64), v_ = some (.int (bI (LIN gl 0 0))) ∧ cs_ = [[(h, ob 14 [.ref ha, .ref tr])], [(tr, lA (aC E 1) 400 f1)], wh, wq]) := by
  refine Mt.of (by decide) (Nat.le_of_ble_eq_true rfl) (fun X hX hR hin => ?_)
  refine g_lv1 (lv1 := [(0, .ref h)]) rfl ?_
  refine g_aload_n hX (pc := 0) dX16_isAsOne_0 0 rfl ?_
  refine g_iconst hX (pc := 1) (v := 0) dX16_isAsOne_1 (by decide) ?_
  refine g_eqi (nI 0) (nI_0.symm) ?_
  refine g_iconst hX (pc := 2) (v := 0) dX16_isAsOne_2 (by decide) ?_
  refine g_eqi (nI 0) (nI_0.symm) ?_
  refine g_callV hX (pc := 3) kX16_isAsOne_2 (mt_History_isAsOne_8 E l h ha tr f gl wh wq 0 0 hw (hl) (by omega) (by omega) (Nat.le_trans (unsUp_le _ _) hl.1) (hT)) q706 fcX16 (sp_mem (i := 0) rfl) [0, 0, 0, 0] rfl rfl rfl (Nat.le_of_ble_eq_true rfl) (Nat.le_of_ble_eq_true rfl) (Nat.le_of_ble_eq_true rfl) (Nat.le_of_ble_eq_true rfl) (Nat.le_of_ble_eq_true rfl) dX16_isAsOne_3 (fun v w1 hp => ?_)
  obtain ⟨f11, h2, h3, rfl, rfl⟩ := hp
  refine g_nrm (cs1 := [[(h, ob 14 [.ref ha, .ref tr])], [(tr, lA (aC E 1) 400 f11)], wh, wq]) (st1 := [.int (bI (LIN gl 0 0))]) rfl rfl ?_
  refine g_zret hX (pc := 6) hR (bI_n _) ?_ (Nat.le_of_ble_eq_true rfl) (Nat.le_of_ble_eq_true rfl) dX16_isAsOne_6
  exact ⟨_, rfl, rfl⟩

set_option maxHeartbeats 4000000 in
theorem mt_History_init (E : EE) (l : Launch) (h : Nat) (lr : Nat) (R : List PR) (wr : va_W) (wq : va_W) (ky : Nat) (hRq : RL E lr R wr wq) (hrq0 : (rqOK R)) (hky : (ky < 4)) : Mt E l yX16_init cX16_init 5 none 7 42 1443 173 [.ref h, .ref lr, .int (nI ky)] [[(h, ob 14 [.null, .null])], wr, wq] (fun (v_ : Option Value) (cs_ : List va_W) => ∃ (ha : Nat) (tr : Nat) (w1 : va_W), HL E ha (hUp R ky (List.length R)) wq w1 ∧ v_ = none ∧ cs_ = [[(h, ob 14 [.ref ha, .ref tr])], [(tr, lA (aC E 1) 400 (fun _ => 0))], w1, wr, wq]) := by
  have h40 := hrq0.1
  refine Mt.of (by decide) (Nat.le_of_ble_eq_true rfl) (fun X hX hR hin => ?_)
  refine g_lv1 (lv1 := [(0, .ref h), (1, .ref lr), (2, .int (nI ky))]) rfl ?_
  refine g_aload_n hX (pc := 0) dX16_init_0 0 rfl ?_
  refine g_objInit hX (pc := 1) q264 q_oi1 q_oi2 (Nat.le_of_ble_eq_true rfl) (Nat.le_of_ble_eq_true rfl) dX16_init_1 ?_
  refine g_aload_n hX (pc := 4) dX16_init_4 0 rfl ?_
  refine g_new hX (pc := 5) fcJ2 q265 q127 q73 (fs := [.int 0, .null, .int 0]) (fun j hj => by match j, hj with | 0, _ => rfl | 1, _ => rfl | 2, _ => rfl | j + 3, h => exact absurd h (by omega)) (by omega) (by omega) dX16_init_5 (fun q1 => ?_)
  refine g_dup hX (pc := 8) dX16_init_8 rfl ?_
  refine g_callI hX (pc := 9) kJ2_init (mt_AL_init E l q1) q266 [0] rfl rfl rfl (Nat.le_of_ble_eq_true rfl) (Nat.le_of_ble_eq_true rfl) (Nat.le_of_ble_eq_true rfl) (by omega) (by omega) dX16_init_9 (fun v w1 hp => ?_)
  obtain ⟨w2, h3, rfl, rfl⟩ := hp
  refine g_nrm (cs1 := [w2, [(h, ob 14 [.null, .null])], wr, wq]) (st1 := [.ref q1, .ref h]) rfl rfl ?_
  refine g_putF hX (pc := 12) fcX16 1 (fs1 := [.ref q1, .null]) (cs1 := [w2, [(h, ob 14 [.ref q1, .null])], wr, wq]) rfl 0 (by decide) q695 rfl rfl hin rfl rfl rfl (Nat.le_of_ble_eq_true rfl) rfl rfl dX16_init_12 ?_
  refine g_aload_n hX (pc := 15) dX16_init_15 0 rfl ?_
  refine g_sipush hX (pc := 16) (v := 400) dX16_init_16 (by decide) ?_
  refine g_newl hX (pc := 19) q380 400 (by decide) (by decide) (Nat.le_of_ble_eq_true rfl) (by omega) (by omega) dX16_init_19 (fun q4 => ?_)
  refine g_putF hX (pc := 21) fcX16 2 (fs1 := [.ref q1, .ref q4]) (cs1 := [[(q4, lA (aC E 1) 400 (fun _ => 0))], w2, [(h, ob 14 [.ref q1, .ref q4])], wr, wq]) rfl 1 (by decide) q696 rfl rfl hin rfl rfl rfl (Nat.le_of_ble_eq_true rfl) rfl rfl dX16_init_21 ?_
  refine g_iconst hX (pc := 24) (v := 0) dX16_init_24 (by decide) ?_
  refine g_eqi (nI 0) (nI_0.symm) ?_
  refine g_istore_n hX (pc := 25) (lv1 := [(3, .int (nI 0)), (0, .ref h), (1, .ref lr), (2, .int (nI ky))]) dX16_init_25 (by decide) rfl ?_
  have hw0 : HL E q1 [] wq w2 := HL.nil h3.al
  have lp5 : ∀ (F1 : Nat) (i : Nat) (w1 : va_W), List.length R - i < F1 → (i ≤ List.length R) → HL E q1 (hUp R ky i) wq w1 → G E l X [[(h, ob 14 [.ref q1, .ref q4])], [(q4, lA (aC E 1) 400 (fun _ => 0))], w1, wr, wq] (2 + i) (403 + 26 * i) 26 [(3, .int (nI i)), (0, .ref h), (1, .ref lr), (2, .int (nI ky))] [] := by
    intro F1
    induction F1 with
    | zero =>
      intro i w1 hF hi hw1
      exact absurd hF (Nat.not_lt_zero _)
    | succ F1 ih1 =>
      intro i w1 hF hi hw1
      refine g_iload_n hX (pc := 26) dX16_init_26 0 rfl ?_
      refine g_aload_n hX (pc := 27) dX16_init_27 2 rfl ?_
      obtain ⟨as6, hal7, hln8⟩ := RL.al hRq
      obtain ⟨fs9, hm10⟩ := AL.head hal7
      refine g_callF hX (pc := 28) kfJ2_size (mt_AL_size E l lr as6 wr hal7) q268 fcJ2 (sp_in 3 rfl hm10) [3] rfl rfl rfl (Nat.le_of_ble_eq_true rfl) (Nat.le_of_ble_eq_true rfl) (Nat.le_of_ble_eq_true rfl) (by omega) (by omega) dX16_init_28 (fun v w1 hp => ?_)
      obtain ⟨rfl, rfl⟩ := hp
      refine g_nrm (cs1 := [wr, [(h, ob 14 [.ref q1, .ref q4])], [(q4, lA (aC E 1) 400 (fun _ => 0))], w1, wq]) (st1 := [.int (nI (List.length as6)), .int (nI i)]) rfl rfl ?_
      refine g_eqi (nI (List.length R)) (by rw [hln8]) ?_
      refine g_icmp_ge hX (pc := 33) (tgt := 85) dX16_init_33 rfl (fun c11 => ?_) (fun c11 => ?_)
      · have d1 : i = List.length R := by
          have := (nI_leI (by omega) (by omega)).mp c11
          omega
        subst d1
        refine g_pk [1, 1, 1, 0, 0] rfl ?_
        refine g_cs (cs1 := [[(h, ob 14 [.ref q1, .ref q4])], [(q4, lA (aC E 1) 400 (fun _ => 0))], w1, wr, wq]) rfl ?_
        refine g_vret hX (pc := 85) hR ?_ (by omega) (by omega) dX16_init_85
        exact ⟨_, _, _, hw1, rfl, rfl⟩
      · have d1 : i < List.length R := by
          have := mt (nI_leI (by omega) (by omega)).mpr c11
          omega
        refine g_aload_n hX (pc := 36) dX16_init_36 2 rfl ?_
        refine g_iload_n hX (pc := 37) dX16_init_37 0 rfl ?_
        obtain ⟨r18, hgr18⟩ := get_ex (l := R) (i := i) (d1)
        obtain ⟨ras12, a13, hAr14, hrl15, hra16, hrm17⟩ := RL.at hRq hgr18
        refine g_callF hX (pc := 38) kfJ2_get (mt_AL_get E l lr ras12 wr i a13 hAr14 (hra16)) q270 fcJ2 (sp_in 0 rfl hm10) [0] rfl rfl rfl (Nat.le_of_ble_eq_true rfl) (Nat.le_of_ble_eq_true rfl) (Nat.le_of_ble_eq_true rfl) (by omega) (by omega) dX16_init_38 (fun v w1 hp => ?_)
        obtain ⟨rfl, rfl⟩ := hp
        refine g_nrm (cs1 := [wr, [(h, ob 14 [.ref q1, .ref q4])], [(q4, lA (aC E 1) 400 (fun _ => 0))], w1, wq]) (st1 := [.ref a13]) rfl rfl ?_
        have hr2 := hrq0.2 r18 (List.mem_of_getElem? hgr18)
        refine g_cast hX (pc := 43) fcX12 (sp_in 4 rfl hrm17) q271 dX16_init_43 ?_
        refine g_astore hX (pc := 46) (lv1 := [(4, .ref a13), (3, .int (nI i)), (0, .ref h), (1, .ref lr), (2, .int (nI ky))]) dX16_init_46 (by decide) rfl ?_
        refine g_aload hX (pc := 48) dX16_init_48 0 rfl ?_
        refine g_getNm hX (pc := 50) fcX12 (sp_in 4 rfl hrm17) 2 (by decide) q997 rfl (v := .int (nI (rY r18))) rfl dX16_init_50 ?_
        refine g_iload_n hX (pc := 53) dX16_init_53 4 rfl ?_
        refine g_icmp_ne hX (pc := 54) (tgt := 79) dX16_init_54 rfl (fun c19 => ?_) (fun c19 => ?_)
        · refine g_iinc hX (pc := 79) (v := nI (i + 1)) (lv1 := [(3, .int (nI (i + 1))), (4, .ref a13), (0, .ref h), (1, .ref lr), (2, .int (nI ky))]) dX16_init_79 1 rfl (nI_1 _) (by decide) rfl ?_
          refine g_goto hX (pc := 82) (tgt := 26) dX16_init_82 rfl ?_
          refine g_pk [1, 1, 1, 0, 0] rfl ?_
          refine g_cs (cs1 := [[(h, ob 14 [.ref q1, .ref q4])], [(q4, lA (aC E 1) 400 (fun _ => 0))], w1, wr, wq]) rfl ?_
          refine g_lv (lv1 := [(3, .int (nI (i + 1))), (0, .ref h), (1, .ref lr), (2, .int (nI ky))]) [0, 2, 3, 4] rfl ?_
          refine g_widen (kc1 := 2 + (i + 1)) (ks1 := 403 + 26 * (i + 1)) (by omega) (by omega) ?_
          exact ih1 (i + 1) w1 (by omega) (by omega) (by rw [hUp_n hgr18 (fun z => c19 (by rw [z.1]))]; exact hw1)
        · refine g_aload hX (pc := 57) dX16_init_57 0 rfl ?_
          refine g_callV hX (pc := 59) kX12_isOfValue (mt_Request_isOfValueM E l a13 r18 wq (hrm17) (hr2.2.1)) q272 fcX12 (sp_in 4 rfl hrm17) [4] rfl rfl rfl (Nat.le_of_ble_eq_true rfl) (Nat.le_of_ble_eq_true rfl) (Nat.le_of_ble_eq_true rfl) (by omega) (by omega) dX16_init_59 (fun v w1 hp => ?_)
          obtain ⟨rfl, rfl⟩ := hp
          refine g_nrm (cs1 := [wq, wr, [(h, ob 14 [.ref q1, .ref q4])], [(q4, lA (aC E 1) 400 (fun _ => 0))], w1]) (st1 := [.int (if isVal r18 then 1 else 0)]) rfl rfl ?_
          refine g_if_eq hX (pc := 62) (tgt := 79) dX16_init_62 rfl (fun c20_ => ?_) (fun c20_ => ?_)
          · have c20 := z10.mp c20_
            refine g_iinc hX (pc := 79) (v := nI (i + 1)) (lv1 := [(3, .int (nI (i + 1))), (4, .ref a13), (0, .ref h), (1, .ref lr), (2, .int (nI ky))]) dX16_init_79 1 rfl (nI_1 _) (by decide) rfl ?_
            refine g_goto hX (pc := 82) (tgt := 26) dX16_init_82 rfl ?_
            refine g_pk [2, 2, 2, 1, 0] rfl ?_
            refine g_cs (cs1 := [[(h, ob 14 [.ref q1, .ref q4])], [(q4, lA (aC E 1) 400 (fun _ => 0))], w1, wr, wq]) rfl ?_
            refine g_lv (lv1 := [(3, .int (nI (i + 1))), (0, .ref h), (1, .ref lr), (2, .int (nI ky))]) [0, 2, 3, 4] rfl ?_
            refine g_widen (kc1 := 2 + (i + 1)) (ks1 := 403 + 26 * (i + 1)) (by omega) (by omega) ?_
            exact ih1 (i + 1) w1 (by omega) (by omega) (by rw [hUp_n hgr18 (fun z => c20 z.2.1)]; exact hw1)
          · have c20 := z10n.mp c20_
            refine g_aload hX (pc := 65) dX16_init_65 0 rfl ?_
            refine g_callV hX (pc := 67) kX12_isSent (mt_Request_isSentM E l a13 r18 wq (hrm17)) q282 fcX12 (sp_in 0 rfl hrm17) [0] rfl rfl rfl (Nat.le_of_ble_eq_true rfl) (Nat.le_of_ble_eq_true rfl) (Nat.le_of_ble_eq_true rfl) (by omega) (by omega) dX16_init_67 (fun v w1 hp => ?_)
            obtain ⟨rfl, rfl⟩ := hp
            refine g_nrm (cs1 := [wq, wr, [(h, ob 14 [.ref q1, .ref q4])], [(q4, lA (aC E 1) 400 (fun _ => 0))], w1]) (st1 := [.int (if rSent r18 = (-1) then 0 else 1)]) rfl rfl ?_
            refine g_if_eq hX (pc := 70) (tgt := 79) dX16_init_70 rfl (fun c21_ => ?_) (fun c21_ => ?_)
            · have c21 := z01.mp c21_
              refine g_iinc hX (pc := 79) (v := nI (i + 1)) (lv1 := [(3, .int (nI (i + 1))), (4, .ref a13), (0, .ref h), (1, .ref lr), (2, .int (nI ky))]) dX16_init_79 1 rfl (nI_1 _) (by decide) rfl ?_
              refine g_goto hX (pc := 82) (tgt := 26) dX16_init_82 rfl ?_
              refine g_pk [2, 2, 2, 1, 0] rfl ?_
              refine g_cs (cs1 := [[(h, ob 14 [.ref q1, .ref q4])], [(q4, lA (aC E 1) 400 (fun _ => 0))], w1, wr, wq]) rfl ?_
              refine g_lv (lv1 := [(3, .int (nI (i + 1))), (0, .ref h), (1, .ref lr), (2, .int (nI ky))]) [0, 2, 3, 4] rfl ?_
              refine g_widen (kc1 := 2 + (i + 1)) (ks1 := 403 + 26 * (i + 1)) (by omega) (by omega) ?_
              exact ih1 (i + 1) w1 (by omega) (by omega) (by rw [hUp_n hgr18 (fun z => z.2.2 c21)]; exact hw1)
            · have c21 := z01n.mp c21_
              refine g_aload_n hX (pc := 73) dX16_init_73 2 rfl ?_
              refine g_aload hX (pc := 74) dX16_init_74 0 rfl ?_
              refine g_callV hX (pc := 76) kX16_put (mt_History_put E l h q1 q4 (fun _ => 0) (hUp R ky i) w1 wq a13 r18 hw1 (hrm17) (hUp_len R ky i)) q286 fcX16 (sp_mem (i := 2) rfl) [2, 2, 2, 0] rfl rfl rfl (Nat.le_of_ble_eq_true rfl) (Nat.le_of_ble_eq_true rfl) (Nat.le_of_ble_eq_true rfl) (by omega) (by omega) dX16_init_76 (fun v w1 hp => ?_)
              obtain ⟨w122, h23, rfl, rfl⟩ := hp
              refine g_nrm (cs1 := [[(h, ob 14 [.ref q1, .ref q4])], [(q4, lA (aC E 1) 400 (fun _ => 0))], w122, wq, wr]) (st1 := []) rfl rfl ?_
              refine g_iinc hX (pc := 79) (v := nI (i + 1)) (lv1 := [(3, .int (nI (i + 1))), (4, .ref a13), (0, .ref h), (1, .ref lr), (2, .int (nI ky))]) dX16_init_79 1 rfl (nI_1 _) (by decide) rfl ?_
              refine g_goto hX (pc := 82) (tgt := 26) dX16_init_82 rfl ?_
              refine g_pk [0, 0, 0, 1, 0] rfl ?_
              refine g_cs (cs1 := [[(h, ob 14 [.ref q1, .ref q4])], [(q4, lA (aC E 1) 400 (fun _ => 0))], w122, wr, wq]) rfl ?_
              refine g_lv (lv1 := [(3, .int (nI (i + 1))), (0, .ref h), (1, .ref lr), (2, .int (nI ky))]) [0, 2, 3, 4] rfl ?_
              refine g_widen (kc1 := 2 + (i + 1)) (ks1 := 403 + 26 * (i + 1)) (by omega) (by omega) ?_
              exact ih1 (i + 1) w122 (by omega) (by omega) (by rw [hUp_y hgr18 ⟨(nI_eq (by omega) (by omega)).mp c19, c20, c21⟩]; exact h23)
  refine g_pk [2, 0, 0, 0, 0] rfl ?_
  refine g_cs (cs1 := [[(h, ob 14 [.ref q1, .ref q4])], [(q4, lA (aC E 1) 400 (fun _ => 0))], w2, wr, wq]) rfl ?_
  refine g_widen (kc1 := 2 + 0) (ks1 := 403 + 26 * 0) (by omega) (by omega) ?_
  exact lp5 ((List.length R - 0) + 1) 0 w2 (Nat.lt_succ_self _) (Nat.zero_le _) (hw0)

set_option maxHeartbeats 4000000 in
theorem mt_Net_breaks (E : EE) (l : Launch) (n : Nat) (lm : Nat) (lb : Nat) (lr : Nat) (P : PN) (wm : va_W) (wM : va_W) (wr : va_W) (wq : va_W) (fz : va_W) (b : Nat) (hML : ML E fz lm (nM P) wm wM) (hRq : RL E lr (nR P) wr wq) (hP : (nOK b P)) (hb : (b ≤ 1000)) (hv : (rvOK (nR P))) : Mt E l yX2_breaks cX2_breaks 4 (some .int) 15 172 5780 353 [.ref n] [[(n, ob 1 [.ref lm, .ref lb, .ref lr, .int (nLo P), .int (nNow P)])], wm, wM, wr, wq, fz] (fun (v_ : Option Value) (cs_ : List va_W) => v_ = some (.int (brkN P)) ∧ cs_ = [[(n, ob 1 [.ref lm, .ref lb, .ref lr, .int (nLo P), .int (nNow P)])], wm, wM, wr, wq, fz]) := by
  have hl5 := hP.1
  have hrq2 := hP.2.2.1
  have h40 := hrq2.1
  have hk9 : ∀ {r : PR}, (rC r < 4 ∧ rK r < 6 ∧ rY r < 4) → (rK r < 6 ∧ rC r < 4 ∧ rY r < 4) := fun z => ⟨z.2.1, z.1, z.2.2⟩
  refine Mt.of (by decide) (Nat.le_of_ble_eq_true rfl) (fun X hX hR hin => ?_)
  refine g_lv1 (lv1 := [(0, .ref n)]) rfl ?_
  refine g_iconst hX (pc := 0) (v := 0) dX2_breaks_0 (by decide) ?_
  refine g_eqi (brk (pr2 (twoF (nM P)) 0) (pr2 (difF (nM P)) 0) false false) (rfl) ?_
  refine g_istore_n hX (pc := 1) (lv1 := [(1, .int (brk (pr2 (twoF (nM P)) 0) (pr2 (difF (nM P)) 0) false false)), (0, .ref n)]) dX2_breaks_1 (by decide) rfl ?_
  refine g_iconst hX (pc := 2) (v := 0) dX2_breaks_2 (by decide) ?_
  refine g_eqi (nI 0) (nI_0.symm) ?_
  refine g_istore_n hX (pc := 3) (lv1 := [(2, .int (nI 0)), (1, .int (brk (pr2 (twoF (nM P)) 0) (pr2 (difF (nM P)) 0) false false)), (0, .ref n)]) dX2_breaks_3 (by decide) rfl ?_
  have lp1 : ∀ (F1 : Nat) (k : Nat), List.length (nM P) - k < F1 → (k ≤ (nM P).length) → G E l X [[(n, ob 1 [.ref lm, .ref lb, .ref lr, .int (nLo P), .int (nNow P)])], wm, wM, wr, wq, fz] 0 0 4 [(2, .int (nI k)), (1, .int (brk (pr2 (twoF (nM P)) k) (pr2 (difF (nM P)) k) false false)), (0, .ref n)] [] := by
    intro F1
    induction F1 with
    | zero =>
      intro k hF hk
      exact absurd hF (Nat.not_lt_zero _)
    | succ F1 ih1 =>
      intro k hF hk
      refine g_iload_n hX (pc := 4) dX2_breaks_4 0 rfl ?_
      refine g_aload_n hX (pc := 5) dX2_breaks_5 2 rfl ?_
      refine g_get hX (pc := 6) fcX2 0 rfl 0 (by decide) q155 rfl (v := .ref lm) rfl dX2_breaks_6 ?_
      obtain ⟨as2, hal3, hln4⟩ := ML.al hML
      obtain ⟨fs5, hm6⟩ := AL.head hal3
      refine g_callF hX (pc := 9) kfJ2_size (mt_AL_size E l lm as2 wm hal3) q189 fcJ2 (sp_in 1 rfl hm6) [1] rfl rfl rfl (Nat.le_of_ble_eq_true rfl) (Nat.le_of_ble_eq_true rfl) (Nat.le_of_ble_eq_true rfl) (by omega) (by omega) dX2_breaks_9 (fun v w1 hp => ?_)
      obtain ⟨rfl, rfl⟩ := hp
      refine g_nrm (cs1 := [wm, [(n, ob 1 [.ref lm, .ref lb, .ref lr, .int (nLo P), .int (nNow P)])], wM, wr, wq, fz]) (st1 := [.int (nI (List.length as2)), .int (nI k)]) rfl rfl ?_
      refine g_eqi (nI (List.length (nM P))) (by rw [hln4]) ?_
      refine g_icmp_ge hX (pc := 14) (tgt := 84) dX2_breaks_14 rfl (fun c7 => ?_) (fun c7 => ?_)
      · have d1 : k = List.length (nM P) := by
          have := (nI_leI (by omega) (by omega)).mp c7
          omega
        refine g_lv1 (lv1 := [(2, .int (nI k)), (1, .int (brk (pr2 (twoF (nM P)) (List.length (nM P))) (pr2 (difF (nM P)) (List.length (nM P))) (apUp (nR P) 0) false)), (0, .ref n)]) (by subst d1; rfl) ?_
        refine g_iconst hX (pc := 84) (v := 0) dX2_breaks_84 (by decide) ?_
        refine g_eqi (nI 0) (nI_0.symm) ?_
        refine g_istore_n hX (pc := 85) (lv1 := [(2, .int (nI 0)), (1, .int (brk (pr2 (twoF (nM P)) (List.length (nM P))) (pr2 (difF (nM P)) (List.length (nM P))) (apUp (nR P) 0) false)), (0, .ref n)]) dX2_breaks_85 (by decide) rfl ?_
        have lp8 : ∀ (F2 : Nat) (q : Nat), 4 - q < F2 → (q ≤ 4) → G E l X [[(n, ob 1 [.ref lm, .ref lb, .ref lr, .int (nLo P), .int (nNow P)])], wm, wM, wr, wq, fz] (43 * q) (1445 * q) 86 [(2, .int (nI q)), (1, .int (brk (pr2 (twoF (nM P)) (List.length (nM P))) (pr2 (difF (nM P)) (List.length (nM P))) (apUp (nR P) q) false)), (0, .ref n)] [] := by
          intro F2
          induction F2 with
          | zero =>
            intro q hF hq
            exact absurd hF (Nat.not_lt_zero _)
          | succ F2 ih2 =>
            intro q hF hq
            refine g_iload_n hX (pc := 86) dX2_breaks_86 0 rfl ?_
            refine g_iconst hX (pc := 87) (v := 4) dX2_breaks_87 (by decide) ?_
            refine g_eqi (nI 4) (rfl) ?_
            refine g_icmp_ge hX (pc := 88) (tgt := 123) dX2_breaks_88 rfl (fun c9 => ?_) (fun c9 => ?_)
            · have d3 : q = 4 := by
                have := (nI_leI (by omega) (by omega)).mp c9
                omega
              refine g_lv1 (lv1 := [(2, .int (nI q)), (1, .int (brk (pr2 (twoF (nM P)) (List.length (nM P))) (pr2 (difF (nM P)) (List.length (nM P))) (apUp (nR P) 4) (pr2 (fenF (nR P)) 0))), (0, .ref n)]) (by subst d3; rfl) ?_
              refine g_iconst hX (pc := 123) (v := 0) dX2_breaks_123 (by decide) ?_
              refine g_eqi (nI 0) (nI_0.symm) ?_
              refine g_istore_n hX (pc := 124) (lv1 := [(2, .int (nI 0)), (1, .int (brk (pr2 (twoF (nM P)) (List.length (nM P))) (pr2 (difF (nM P)) (List.length (nM P))) (apUp (nR P) 4) (pr2 (fenF (nR P)) 0))), (0, .ref n)]) dX2_breaks_124 (by decide) rfl ?_
              have lp10 : ∀ (F3 : Nat) (x : Nat), List.length (nR P) - x < F3 → (x ≤ (nR P).length) → G E l X [[(n, ob 1 [.ref lm, .ref lb, .ref lr, .int (nLo P), .int (nNow P)])], wm, wM, wr, wq, fz] 172 5780 125 [(2, .int (nI x)), (1, .int (brk (pr2 (twoF (nM P)) (List.length (nM P))) (pr2 (difF (nM P)) (List.length (nM P))) (apUp (nR P) 4) (pr2 (fenF (nR P)) x))), (0, .ref n)] [] := by
                intro F3
                induction F3 with
                | zero =>
                  intro x hF hx
                  exact absurd hF (Nat.not_lt_zero _)
                | succ F3 ih3 =>
                  intro x hF hx
                  refine g_iload_n hX (pc := 125) dX2_breaks_125 0 rfl ?_
                  refine g_aload_n hX (pc := 126) dX2_breaks_126 2 rfl ?_
                  refine g_get hX (pc := 127) fcX2 0 rfl 2 (by decide) q159 rfl (v := .ref lr) rfl dX2_breaks_127 ?_
                  obtain ⟨as11, hal12, hln13⟩ := RL.al hRq
                  obtain ⟨fs14, hm15⟩ := AL.head hal12
                  refine g_callF hX (pc := 130) kfJ2_size (mt_AL_size E l lr as11 wr hal12) q189 fcJ2 (sp_in 3 rfl hm15) [3] rfl rfl rfl (Nat.le_of_ble_eq_true rfl) (Nat.le_of_ble_eq_true rfl) (Nat.le_of_ble_eq_true rfl) (by omega) (by omega) dX2_breaks_130 (fun v w1 hp => ?_)
                  obtain ⟨rfl, rfl⟩ := hp
                  refine g_nrm (cs1 := [wr, [(n, ob 1 [.ref lm, .ref lb, .ref lr, .int (nLo P), .int (nNow P)])], wm, wM, wq, fz]) (st1 := [.int (nI (List.length as11)), .int (nI x)]) rfl rfl ?_
                  refine g_eqi (nI (List.length (nR P))) (by rw [hln13]) ?_
                  refine g_icmp_ge hX (pc := 135) (tgt := 198) dX2_breaks_135 rfl (fun c16 => ?_) (fun c16 => ?_)
                  · have d3x : x = List.length (nR P) := by
                      have := (nI_leI (by omega) (by omega)).mp c16
                      omega
                    refine g_iload_n hX (pc := 198) dX2_breaks_198 1 rfl ?_
                    refine g_pk [1, 1, 1, 0, 0, 0] rfl ?_
                    refine g_cs (cs1 := [[(n, ob 1 [.ref lm, .ref lb, .ref lr, .int (nLo P), .int (nNow P)])], wm, wM, wr, wq, fz]) rfl ?_
                    refine g_iret hX (pc := 199) hR ?_ (by omega) (by omega) dX2_breaks_199
                    exact ⟨by rw [d3x]; rfl, rfl⟩
                  · have d3x : x < List.length (nR P) := by
                      have := mt (nI_leI (by omega) (by omega)).mpr c16
                      omega
                    refine g_lv1 (lv1 := [(2, .int (nI x)), (1, .int (brk (pr2 (twoF (nM P)) (List.length (nM P))) (pr2 (difF (nM P)) (List.length (nM P))) (apUp (nR P) 4) (prUp (fenF (nR P)) x 0))), (0, .ref n)]) (by rw [prUp_0]) ?_
                    refine g_iconst hX (pc := 138) (v := 0) dX2_breaks_138 (by decide) ?_
                    refine g_eqi (nI 0) (nI_0.symm) ?_
                    refine g_istore_n hX (pc := 139) (lv1 := [(3, .int (nI 0)), (2, .int (nI x)), (1, .int (brk (pr2 (twoF (nM P)) (List.length (nM P))) (pr2 (difF (nM P)) (List.length (nM P))) (apUp (nR P) 4) (prUp (fenF (nR P)) x 0))), (0, .ref n)]) dX2_breaks_139 (by decide) rfl ?_
                    have lp17 : ∀ (F4 : Nat) (y : Nat), x - y < F4 → (y ≤ x) → G E l X [[(n, ob 1 [.ref lm, .ref lb, .ref lr, .int (nLo P), .int (nNow P)])], wm, wM, wr, wq, fz] 172 5780 140 [(3, .int (nI y)), (2, .int (nI x)), (1, .int (brk (pr2 (twoF (nM P)) (List.length (nM P))) (pr2 (difF (nM P)) (List.length (nM P))) (apUp (nR P) 4) (prUp (fenF (nR P)) x y))), (0, .ref n)] [] := by
                      intro F4
                      induction F4 with
                      | zero =>
                        intro y hF hy
                        exact absurd hF (Nat.not_lt_zero _)
                      | succ F4 ih4 =>
                        intro y hF hy
                        refine g_iload_n hX (pc := 140) dX2_breaks_140 0 rfl ?_
                        refine g_iload_n hX (pc := 141) dX2_breaks_141 1 rfl ?_
                        refine g_icmp_ge hX (pc := 142) (tgt := 192) dX2_breaks_142 rfl (fun c18 => ?_) (fun c18 => ?_)
                        · have d4 : y = x := by
                            have := (nI_leI (by omega) (by omega)).mp c18
                            omega
                          refine g_lv1 (lv1 := [(3, .int (nI y)), (2, .int (nI x)), (1, .int (brk (pr2 (twoF (nM P)) (List.length (nM P))) (pr2 (difF (nM P)) (List.length (nM P))) (apUp (nR P) 4) (pr2 (fenF (nR P)) (x + 1)))), (0, .ref n)]) (by rw [d4, prUp_n]) ?_
                          refine g_iinc hX (pc := 192) (v := nI (x + 1)) (lv1 := [(2, .int (nI (x + 1))), (3, .int (nI y)), (1, .int (brk (pr2 (twoF (nM P)) (List.length (nM P))) (pr2 (difF (nM P)) (List.length (nM P))) (apUp (nR P) 4) (pr2 (fenF (nR P)) (x + 1)))), (0, .ref n)]) dX2_breaks_192 1 rfl (nI_1 _) (by decide) rfl ?_
                          refine g_goto hX (pc := 195) (tgt := 125) dX2_breaks_195 rfl ?_
                          refine g_lv (lv1 := [(2, .int (nI (x + 1))), (1, .int (brk (pr2 (twoF (nM P)) (List.length (nM P))) (pr2 (difF (nM P)) (List.length (nM P))) (apUp (nR P) 4) (pr2 (fenF (nR P)) (x + 1)))), (0, .ref n)]) [0, 2, 3] rfl ?_
                          refine g_widen (kc1 := 172) (ks1 := 5780) (by omega) (by omega) ?_
                          exact ih3 (x + 1) (by omega) (by omega)
                        · have d4 : y < x := by
                            have := mt (nI_leI (by omega) (by omega)).mpr c18
                            omega
                          refine g_iload_n hX (pc := 145) dX2_breaks_145 2 rfl ?_
                          refine g_aload_n hX (pc := 146) dX2_breaks_146 3 rfl ?_
                          refine g_get hX (pc := 147) fcX2 0 rfl 2 (by decide) q159 rfl (v := .ref lr) rfl dX2_breaks_147 ?_
                          refine g_iload_n hX (pc := 150) dX2_breaks_150 1 rfl ?_
                          obtain ⟨r25, hgr25⟩ := get_ex (l := (nR P)) (i := x) (d3x)
                          obtain ⟨ras19, a20, hAr21, hrl22, hra23, hrm24⟩ := RL.at hRq hgr25
                          refine g_callF hX (pc := 151) kfJ2_get (mt_AL_get E l lr ras19 wr x a20 hAr21 (hra23)) q203 fcJ2 (sp_in 3 rfl hm15) [3] rfl rfl rfl (Nat.le_of_ble_eq_true rfl) (Nat.le_of_ble_eq_true rfl) (Nat.le_of_ble_eq_true rfl) (by omega) (by omega) dX2_breaks_151 (fun v w1 hp => ?_)
                          obtain ⟨rfl, rfl⟩ := hp
                          refine g_nrm (cs1 := [wr, [(n, ob 1 [.ref lm, .ref lb, .ref lr, .int (nLo P), .int (nNow P)])], wm, wM, wq, fz]) (st1 := [.ref a20, .int (brk (pr2 (twoF (nM P)) (List.length (nM P))) (pr2 (difF (nM P)) (List.length (nM P))) (apUp (nR P) 4) (prUp (fenF (nR P)) x y))]) rfl rfl ?_
                          refine g_cast hX (pc := 156) fcX12 (sp_in 4 rfl hrm24) q726 dX2_breaks_156 ?_
                          refine g_aload_n hX (pc := 159) dX2_breaks_159 3 rfl ?_
                          refine g_get hX (pc := 160) fcX2 1 rfl 2 (by decide) q159 rfl (v := .ref lr) rfl dX2_breaks_160 ?_
                          refine g_iload_n hX (pc := 163) dX2_breaks_163 0 rfl ?_
                          obtain ⟨r32, hgr32⟩ := get_ex (l := (nR P)) (i := y) (by omega)
                          obtain ⟨ras26, a27, hAr28, hrl29, hra30, hrm31⟩ := RL.at hRq hgr32
                          refine g_callF hX (pc := 164) kfJ2_get (mt_AL_get E l lr ras26 wr y a27 hAr28 (hra30)) q203 fcJ2 (sp_in 0 rfl hm15) [0] rfl rfl rfl (Nat.le_of_ble_eq_true rfl) (Nat.le_of_ble_eq_true rfl) (Nat.le_of_ble_eq_true rfl) (by omega) (by omega) dX2_breaks_164 (fun v w1 hp => ?_)
                          obtain ⟨rfl, rfl⟩ := hp
                          refine g_nrm (cs1 := [wr, [(n, ob 1 [.ref lm, .ref lb, .ref lr, .int (nLo P), .int (nNow P)])], wm, wM, wq, fz]) (st1 := [.ref a27, .ref a20, .int (brk (pr2 (twoF (nM P)) (List.length (nM P))) (pr2 (difF (nM P)) (List.length (nM P))) (apUp (nR P) 4) (prUp (fenF (nR P)) x y))]) rfl rfl ?_
                          refine g_cast hX (pc := 169) fcX12 (sp_in 4 rfl hrm31) q726 dX2_breaks_169 ?_
                          refine g_callS hX (pc := 172) kX2_isFencedTwice (mt_Net_isFencedTwice E l a20 r25 a27 r32 wq (hrm24) (hrm31) (hk9 (hrq2.2 r25 (List.mem_of_getElem? hgr25))) (hk9 (hrq2.2 r32 (List.mem_of_getElem? hgr32)))) q727 [4] rfl rfl rfl (Nat.le_of_ble_eq_true rfl) (Nat.le_of_ble_eq_true rfl) (Nat.le_of_ble_eq_true rfl) (by omega) (by omega) dX2_breaks_172 (fun v w1 hp => ?_)
                          obtain ⟨rfl, rfl⟩ := hp
                          refine g_nrm (cs1 := [wq, wr, [(n, ob 1 [.ref lm, .ref lb, .ref lr, .int (nLo P), .int (nNow P)])], wm, wM, fz]) (st1 := [.int (bI (fencedB r25 r32)), .int (brk (pr2 (twoF (nM P)) (List.length (nM P))) (pr2 (difF (nM P)) (List.length (nM P))) (apUp (nR P) 4) (prUp (fenF (nR P)) x y))]) rfl rfl ?_
                          refine g_val (v := if (fencedB r25 r32) = false then 0 else 8) (pcJ := 184) (st1 := [.int (brk (pr2 (twoF (nM P)) (List.length (nM P))) (pr2 (difF (nM P)) (List.length (nM P))) (apUp (nR P) 4) (prUp (fenF (nR P)) x y))]) (fun hj33 => ?_) ?_
                          · refine g_if_eq hX (pc := 175) (tgt := 183) dX2_breaks_175 rfl (fun c34_ => ?_) (fun c34_ => ?_)
                            · have c34 := bI_0.mp c34_
                              refine g_iconst hX (pc := 183) (v := 0) dX2_breaks_183 (by decide) ?_
                              exact hj33 _ (by rw [if_pos c34])
                            · have c34 := mt bI_0.mpr c34_
                              refine g_bipush hX (pc := 178) (v := 8) dX2_breaks_178 (by decide) ?_
                              refine g_goto hX (pc := 180) (tgt := 184) dX2_breaks_180 rfl ?_
                              exact hj33 _ (by rw [if_neg c34])
                          refine g_ior hX (pc := 184) dX2_breaks_184 ?_
                          refine g_eqi (brk (pr2 (twoF (nM P)) (List.length (nM P))) (pr2 (difF (nM P)) (List.length (nM P))) (apUp (nR P) 4) (prUp (fenF (nR P)) x (y + 1))) (by rw [brk_8, prUp_s, show fenF (nR P) x y = fencedB r25 r32 from by unfold fenF; rw [hG_e hgr25, hG_e hgr32]]) ?_
                          refine g_istore_n hX (pc := 185) (lv1 := [(1, .int (brk (pr2 (twoF (nM P)) (List.length (nM P))) (pr2 (difF (nM P)) (List.length (nM P))) (apUp (nR P) 4) (prUp (fenF (nR P)) x (y + 1)))), (3, .int (nI y)), (2, .int (nI x)), (0, .ref n)]) dX2_breaks_185 (by decide) rfl ?_
                          refine g_iinc hX (pc := 186) (v := nI (y + 1)) (lv1 := [(3, .int (nI (y + 1))), (1, .int (brk (pr2 (twoF (nM P)) (List.length (nM P))) (pr2 (difF (nM P)) (List.length (nM P))) (apUp (nR P) 4) (prUp (fenF (nR P)) x (y + 1)))), (2, .int (nI x)), (0, .ref n)]) dX2_breaks_186 1 rfl (nI_1 _) (by decide) rfl ?_
                          refine g_goto hX (pc := 189) (tgt := 140) dX2_breaks_189 rfl ?_
                          refine g_pk [2, 2, 2, 1, 0, 0] rfl ?_
                          refine g_cs (cs1 := [[(n, ob 1 [.ref lm, .ref lb, .ref lr, .int (nLo P), .int (nNow P)])], wm, wM, wr, wq, fz]) rfl ?_
                          refine g_lv (lv1 := [(3, .int (nI (y + 1))), (2, .int (nI x)), (1, .int (brk (pr2 (twoF (nM P)) (List.length (nM P))) (pr2 (difF (nM P)) (List.length (nM P))) (apUp (nR P) 4) (prUp (fenF (nR P)) x (y + 1)))), (0, .ref n)]) [0, 2, 1, 3] rfl ?_
                          refine g_widen (kc1 := 172) (ks1 := 5780) (by omega) (by omega) ?_
                          exact ih4 (y + 1) (by omega) (by omega)
                    refine g_pk [1, 1, 1, 0, 0, 0] rfl ?_
                    refine g_cs (cs1 := [[(n, ob 1 [.ref lm, .ref lb, .ref lr, .int (nLo P), .int (nNow P)])], wm, wM, wr, wq, fz]) rfl ?_
                    refine g_widen (kc1 := 172) (ks1 := 5780) (by omega) (by omega) ?_
                    exact lp17 ((x - 0) + 1) 0 (Nat.lt_succ_self _) (Nat.zero_le _)
              refine g_widen (kc1 := 172) (ks1 := 5780) (by omega) (by omega) ?_
              exact lp10 ((List.length (nR P) - 0) + 1) 0 (Nat.lt_succ_self _) (Nat.zero_le _)
            · have d3 : q < 4 := by
                have := mt (nI_leI (by omega) (by omega)).mpr c9
                omega
              refine g_iload_n hX (pc := 91) dX2_breaks_91 1 rfl ?_
              refine g_new hX (pc := 92) fcX16 q259 q260 q106 (fs := [.null, .null]) (fun j hj => by match j, hj with | 0, _ => rfl | 1, _ => rfl | j + 2, h => exact absurd h (by omega)) (by omega) (by omega) dX2_breaks_92 (fun q35 => ?_)
              refine g_dup hX (pc := 95) dX2_breaks_95 rfl ?_
              refine g_aload_n hX (pc := 96) dX2_breaks_96 2 rfl ?_
              refine g_get hX (pc := 97) fcX2 1 rfl 2 (by decide) q159 rfl (v := .ref lr) rfl dX2_breaks_97 ?_
              refine g_iload_n hX (pc := 100) dX2_breaks_100 0 rfl ?_
              refine g_callI hX (pc := 101) kX16_init (mt_History_init E l q35 lr (nR P) wr wq q hRq (hrq2) (d3)) q261 [0, 3, 3] rfl rfl rfl (Nat.le_of_ble_eq_true rfl) (Nat.le_of_ble_eq_true rfl) (Nat.le_of_ble_eq_true rfl) (by omega) (by omega) dX2_breaks_101 (fun v w1 hp => ?_)
              obtain ⟨ha36, tr37, w138, h39, rfl, rfl⟩ := hp
              refine g_nrm (cs1 := [[(q35, ob 14 [.ref ha36, .ref tr37])], [(tr37, lA (aC E 1) 400 (fun _ => 0))], w138, wr, wq, [(n, ob 1 [.ref lm, .ref lb, .ref lr, .int (nLo P), .int (nNow P)])], wm, wM, fz]) (st1 := [.ref q35, .int (brk (pr2 (twoF (nM P)) (List.length (nM P))) (pr2 (difF (nM P)) (List.length (nM P))) (apUp (nR P) q) false)]) rfl rfl ?_
              refine g_callV hX (pc := 104) kX16_isAsOne (mt_History_isAsOne E l q35 ha36 tr37 (fun _ => 0) (hUp (nR P) q (List.length (nR P))) w138 wq h39 (hUp_ok hrq2 hv q _ (Nat.le_refl _)) (TI.zero _)) q702 fcX16 (sp_mem (i := 0) rfl) [0, 0, 0, 1] rfl rfl rfl (Nat.le_of_ble_eq_true rfl) (Nat.le_of_ble_eq_true rfl) (Nat.le_of_ble_eq_true rfl) (by omega) (by omega) dX2_breaks_104 (fun v w1 hp => ?_)
              obtain ⟨f140, rfl, rfl⟩ := hp
              refine g_nrm (cs1 := [[(q35, ob 14 [.ref ha36, .ref tr37])], [(tr37, lA (aC E 1) 400 f140)], w138, wq, wr, [(n, ob 1 [.ref lm, .ref lb, .ref lr, .int (nLo P), .int (nNow P)])], wm, wM, fz]) (st1 := [.int (bI (LIN (hUp (nR P) q (List.length (nR P))) 0 0)), .int (brk (pr2 (twoF (nM P)) (List.length (nM P))) (pr2 (difF (nM P)) (List.length (nM P))) (apUp (nR P) q) false)]) rfl rfl ?_
              refine g_val (v := if (LIN (hUp (nR P) q (List.length (nR P))) 0 0) = false then 4 else 0) (pcJ := 115) (st1 := [.int (brk (pr2 (twoF (nM P)) (List.length (nM P))) (pr2 (difF (nM P)) (List.length (nM P))) (apUp (nR P) q) false)]) (fun hj41 => ?_) ?_
              · refine g_if_eq hX (pc := 107) (tgt := 114) dX2_breaks_107 rfl (fun c42_ => ?_) (fun c42_ => ?_)
                · have c42 := bI_0.mp c42_
                  refine g_iconst hX (pc := 114) (v := 4) dX2_breaks_114 (by decide) ?_
                  exact hj41 _ (by rw [if_pos c42])
                · have c42 := mt bI_0.mpr c42_
                  refine g_iconst hX (pc := 110) (v := 0) dX2_breaks_110 (by decide) ?_
                  refine g_goto hX (pc := 111) (tgt := 115) dX2_breaks_111 rfl ?_
                  exact hj41 _ (by rw [if_neg c42])
              refine g_ior hX (pc := 115) dX2_breaks_115 ?_
              refine g_eqi (brk (pr2 (twoF (nM P)) (List.length (nM P))) (pr2 (difF (nM P)) (List.length (nM P))) (apUp (nR P) (q + 1)) false) (by rw [brk_4]; rfl) ?_
              refine g_istore_n hX (pc := 116) (lv1 := [(1, .int (brk (pr2 (twoF (nM P)) (List.length (nM P))) (pr2 (difF (nM P)) (List.length (nM P))) (apUp (nR P) (q + 1)) false)), (2, .int (nI q)), (0, .ref n)]) dX2_breaks_116 (by decide) rfl ?_
              refine g_iinc hX (pc := 117) (v := nI (q + 1)) (lv1 := [(2, .int (nI (q + 1))), (1, .int (brk (pr2 (twoF (nM P)) (List.length (nM P))) (pr2 (difF (nM P)) (List.length (nM P))) (apUp (nR P) (q + 1)) false)), (0, .ref n)]) dX2_breaks_117 1 rfl (nI_1 _) (by decide) rfl ?_
              refine g_goto hX (pc := 120) (tgt := 86) dX2_breaks_120 rfl ?_
              refine g_drop (cs1 := [[(q35, ob 14 [.ref ha36, .ref tr37])], [(tr37, lA (aC E 1) 400 f140)], wq, wr, [(n, ob 1 [.ref lm, .ref lb, .ref lr, .int (nLo P), .int (nNow P)])], wm, wM, fz]) [2] rfl ?_
              refine g_drop (cs1 := [[(q35, ob 14 [.ref ha36, .ref tr37])], wq, wr, [(n, ob 1 [.ref lm, .ref lb, .ref lr, .int (nLo P), .int (nNow P)])], wm, wM, fz]) [1] rfl ?_
              refine g_drop (cs1 := [wq, wr, [(n, ob 1 [.ref lm, .ref lb, .ref lr, .int (nLo P), .int (nNow P)])], wm, wM, fz]) [0] rfl ?_
              refine g_pk [2, 2, 2, 1, 0, 0] rfl ?_
              refine g_cs (cs1 := [[(n, ob 1 [.ref lm, .ref lb, .ref lr, .int (nLo P), .int (nNow P)])], wm, wM, wr, wq, fz]) rfl ?_
              refine g_widen (kc1 := 43 * (q + 1)) (ks1 := 1445 * (q + 1)) (by omega) (by omega) ?_
              exact ih2 (q + 1) (by omega) (by omega)
        refine g_pk [1, 0, 0, 0, 0, 0] rfl ?_
        refine g_cs (cs1 := [[(n, ob 1 [.ref lm, .ref lb, .ref lr, .int (nLo P), .int (nNow P)])], wm, wM, wr, wq, fz]) rfl ?_
        refine g_widen (kc1 := 43 * 0) (ks1 := 1445 * 0) (by omega) (by omega) ?_
        exact lp8 ((4 - 0) + 1) 0 (Nat.lt_succ_self _) (Nat.zero_le _)
      · have d1 : k < List.length (nM P) := by
          have := mt (nI_leI (by omega) (by omega)).mpr c7
          omega
        refine g_lv1 (lv1 := [(2, .int (nI k)), (1, .int (brk (prUp (twoF (nM P)) k 0) (prUp (difF (nM P)) k 0) false false)), (0, .ref n)]) (by rw [prUp_0, prUp_0]) ?_
        refine g_iconst hX (pc := 17) (v := 0) dX2_breaks_17 (by decide) ?_
        refine g_eqi (nI 0) (nI_0.symm) ?_
        refine g_istore_n hX (pc := 18) (lv1 := [(3, .int (nI 0)), (2, .int (nI k)), (1, .int (brk (prUp (twoF (nM P)) k 0) (prUp (difF (nM P)) k 0) false false)), (0, .ref n)]) dX2_breaks_18 (by decide) rfl ?_
        have lp43 : ∀ (F5 : Nat) (o : Nat), k - o < F5 → (o ≤ k) → G E l X [[(n, ob 1 [.ref lm, .ref lb, .ref lr, .int (nLo P), .int (nNow P)])], wm, wM, wr, wq, fz] 0 0 19 [(3, .int (nI o)), (2, .int (nI k)), (1, .int (brk (prUp (twoF (nM P)) k o) (prUp (difF (nM P)) k o) false false)), (0, .ref n)] [] := by
          intro F5
          induction F5 with
          | zero =>
            intro o hF ho
            exact absurd hF (Nat.not_lt_zero _)
          | succ F5 ih5 =>
            intro o hF ho
            refine g_iload_n hX (pc := 19) dX2_breaks_19 0 rfl ?_
            refine g_iload_n hX (pc := 20) dX2_breaks_20 1 rfl ?_
            refine g_icmp_ge hX (pc := 21) (tgt := 78) dX2_breaks_21 rfl (fun c44 => ?_) (fun c44 => ?_)
            · have d2 : o = k := by
                have := (nI_leI (by omega) (by omega)).mp c44
                omega
              refine g_lv1 (lv1 := [(3, .int (nI o)), (2, .int (nI k)), (1, .int (brk (pr2 (twoF (nM P)) (k + 1)) (pr2 (difF (nM P)) (k + 1)) false false)), (0, .ref n)]) (by rw [d2, prUp_n, prUp_n]) ?_
              refine g_iinc hX (pc := 78) (v := nI (k + 1)) (lv1 := [(2, .int (nI (k + 1))), (3, .int (nI o)), (1, .int (brk (pr2 (twoF (nM P)) (k + 1)) (pr2 (difF (nM P)) (k + 1)) false false)), (0, .ref n)]) dX2_breaks_78 1 rfl (nI_1 _) (by decide) rfl ?_
              refine g_goto hX (pc := 81) (tgt := 4) dX2_breaks_81 rfl ?_
              refine g_lv (lv1 := [(2, .int (nI (k + 1))), (1, .int (brk (pr2 (twoF (nM P)) (k + 1)) (pr2 (difF (nM P)) (k + 1)) false false)), (0, .ref n)]) [0, 2, 3] rfl ?_
              refine g_widen (kc1 := 0) (ks1 := 0) (by omega) (by omega) ?_
              exact ih1 (k + 1) (by omega) (by omega)
            · have d2 : o < k := by
                have := mt (nI_leI (by omega) (by omega)).mpr c44
                omega
              refine g_iload_n hX (pc := 24) dX2_breaks_24 2 rfl ?_
              refine g_aload_n hX (pc := 25) dX2_breaks_25 3 rfl ?_
              refine g_iload_n hX (pc := 26) dX2_breaks_26 1 rfl ?_
              obtain ⟨M51, hgM51⟩ := get_ex (l := (nM P)) (i := k) (d1)
              obtain ⟨mas45, m46, hAm47, hml48, hmk49, hMI50⟩ := ML.at hML hgM51
              obtain ⟨rn52, rk53, rl54, rs55, rst56, la57, sp58, lb59, sp260, fn61, fk62, m063, arr64, m165, arr166, h167, h268, h369, h470, h571, h672, h773, hn74⟩ := hMI50.peek
              obtain ⟨hb1M51, hb2M51, hb3M51⟩ := hP.2.2.2.1 _ _ hgM51
              refine g_callV hX (pc := 27) kX2_at (mt_Net_atP E l n lm lb lr (nLo P) (nNow P) mas45 wm k m46 M51 fz wM hAm47 hMI50 (hmk49)) q198 fcX2 (sp_mem (i := 0) rfl) [0, 0, 0] rfl rfl rfl (Nat.le_of_ble_eq_true rfl) (Nat.le_of_ble_eq_true rfl) (Nat.le_of_ble_eq_true rfl) (by omega) (by omega) dX2_breaks_27 (fun v w1 hp => ?_)
              obtain ⟨rfl, rfl⟩ := hp
              refine g_nrm (cs1 := [[(n, ob 1 [.ref lm, .ref lb, .ref lr, .int (nLo P), .int (nNow P)])], wm, wM, wr, wq, fz]) (st1 := [.ref m46, .int (brk (prUp (twoF (nM P)) k o) (prUp (difF (nM P)) k o) false false)]) rfl rfl ?_
              refine g_aload_n hX (pc := 30) dX2_breaks_30 3 rfl ?_
              refine g_iload_n hX (pc := 31) dX2_breaks_31 0 rfl ?_
              obtain ⟨M81, hgM81⟩ := get_ex (l := (nM P)) (i := o) (by omega)
              obtain ⟨mas75, m76, hAm77, hml78, hmk79, hMI80⟩ := ML.at hML hgM81
              obtain ⟨rn82, rk83, rl84, rs85, rst86, la87, sp88, lb89, sp290, fn91, fk92, m093, arr94, m195, arr196, h197, h298, h399, h4100, h5101, h6102, h7103, hn104⟩ := hMI80.peek
              obtain ⟨hb1M81, hb2M81, hb3M81⟩ := hP.2.2.2.1 _ _ hgM81
              refine g_callV hX (pc := 32) kX2_at (mt_Net_atP E l n lm lb lr (nLo P) (nNow P) mas75 wm o m76 M81 fz wM hAm77 hMI80 (hmk79)) q198 fcX2 (sp_mem (i := 0) rfl) [0, 0, 0] rfl rfl rfl (Nat.le_of_ble_eq_true rfl) (Nat.le_of_ble_eq_true rfl) (Nat.le_of_ble_eq_true rfl) (by omega) (by omega) dX2_breaks_32 (fun v w1 hp => ?_)
              obtain ⟨rfl, rfl⟩ := hp
              refine g_nrm (cs1 := [[(n, ob 1 [.ref lm, .ref lb, .ref lr, .int (nLo P), .int (nNow P)])], wm, wM, wr, wq, fz]) (st1 := [.ref m76, .ref m46, .int (brk (prUp (twoF (nM P)) k o) (prUp (difF (nM P)) k o) false false)]) rfl rfl ?_
              refine g_callS hX (pc := 35) kX2_areTwo (mt_Net_areTwo E l m46 M51 m76 M81 fz wM hMI50 hMI80) q222 [2] rfl rfl rfl (Nat.le_of_ble_eq_true rfl) (Nat.le_of_ble_eq_true rfl) (Nat.le_of_ble_eq_true rfl) (by omega) (by omega) dX2_breaks_35 (fun v w1 hp => ?_)
              obtain ⟨rfl, rfl⟩ := hp
              refine g_nrm (cs1 := [wM, [(n, ob 1 [.ref lm, .ref lb, .ref lr, .int (nLo P), .int (nNow P)])], wm, wr, wq, fz]) (st1 := [.int (bI (areTwoB M51 M81)), .int (brk (prUp (twoF (nM P)) k o) (prUp (difF (nM P)) k o) false false)]) rfl rfl ?_
              refine g_val (v := if (areTwoB M51 M81) = false then 0 else 1) (pcJ := 46) (st1 := [.int (brk (prUp (twoF (nM P)) k o) (prUp (difF (nM P)) k o) false false)]) (fun hj105 => ?_) ?_
              · refine g_if_eq hX (pc := 38) (tgt := 45) dX2_breaks_38 rfl (fun c106_ => ?_) (fun c106_ => ?_)
                · have c106 := bI_0.mp c106_
                  refine g_iconst hX (pc := 45) (v := 0) dX2_breaks_45 (by decide) ?_
                  exact hj105 _ (by rw [if_pos c106])
                · have c106 := mt bI_0.mpr c106_
                  refine g_iconst hX (pc := 41) (v := 1) dX2_breaks_41 (by decide) ?_
                  refine g_goto hX (pc := 42) (tgt := 46) dX2_breaks_42 rfl ?_
                  exact hj105 _ (by rw [if_neg c106])
              refine g_ior hX (pc := 46) dX2_breaks_46 ?_
              refine g_eqi (brk (prUp (twoF (nM P)) k (o + 1)) (prUp (difF (nM P)) k o) false false) (by rw [brk_1, prUp_s, show twoF (nM P) k o = areTwoB M51 M81 from by unfold twoF; rw [mG_e hgM51, mG_e hgM81]]) ?_
              refine g_istore_n hX (pc := 47) (lv1 := [(1, .int (brk (prUp (twoF (nM P)) k (o + 1)) (prUp (difF (nM P)) k o) false false)), (3, .int (nI o)), (2, .int (nI k)), (0, .ref n)]) dX2_breaks_47 (by decide) rfl ?_
              refine g_iload_n hX (pc := 48) dX2_breaks_48 0 rfl ?_
              refine g_aload_n hX (pc := 49) dX2_breaks_49 3 rfl ?_
              refine g_iload_n hX (pc := 50) dX2_breaks_50 2 rfl ?_
              refine g_callV hX (pc := 51) kX2_at (mt_Net_atP E l n lm lb lr (nLo P) (nNow P) mas45 wm k m46 M51 fz wM hAm47 hMI50 (hmk49)) q198 fcX2 (sp_mem (i := 1) rfl) [1, 1, 0] rfl rfl rfl (Nat.le_of_ble_eq_true rfl) (Nat.le_of_ble_eq_true rfl) (Nat.le_of_ble_eq_true rfl) (by omega) (by omega) dX2_breaks_51 (fun v w1 hp => ?_)
              obtain ⟨rfl, rfl⟩ := hp
              refine g_nrm (cs1 := [[(n, ob 1 [.ref lm, .ref lb, .ref lr, .int (nLo P), .int (nNow P)])], wm, wM, wr, wq, fz]) (st1 := [.ref m46, .int (brk (prUp (twoF (nM P)) k (o + 1)) (prUp (difF (nM P)) k o) false false)]) rfl rfl ?_
              refine g_aload_n hX (pc := 54) dX2_breaks_54 3 rfl ?_
              refine g_iload_n hX (pc := 55) dX2_breaks_55 1 rfl ?_
              refine g_callV hX (pc := 56) kX2_at (mt_Net_atP E l n lm lb lr (nLo P) (nNow P) mas75 wm o m76 M81 fz wM hAm77 hMI80 (hmk79)) q198 fcX2 (sp_mem (i := 0) rfl) [0, 0, 0] rfl rfl rfl (Nat.le_of_ble_eq_true rfl) (Nat.le_of_ble_eq_true rfl) (Nat.le_of_ble_eq_true rfl) (by omega) (by omega) dX2_breaks_56 (fun v w1 hp => ?_)
              obtain ⟨rfl, rfl⟩ := hp
              refine g_nrm (cs1 := [[(n, ob 1 [.ref lm, .ref lb, .ref lr, .int (nLo P), .int (nNow P)])], wm, wM, wr, wq, fz]) (st1 := [.ref m76, .ref m46, .int (brk (prUp (twoF (nM P)) k (o + 1)) (prUp (difF (nM P)) k o) false false)]) rfl rfl ?_
              refine g_callS hX (pc := 59) kX2_differ (mt_Net_differ E l m46 M51 m76 M81 fz wM hMI50 hMI80 (⟨by have := hb1M51.2.2.1; omega, by have := hb1M51.2.1; omega⟩) (⟨by have := hb1M81.2.2.1; omega, by have := hb1M81.2.1; omega⟩)) q229 [2, 4] rfl rfl rfl (Nat.le_of_ble_eq_true rfl) (Nat.le_of_ble_eq_true rfl) (Nat.le_of_ble_eq_true rfl) (by omega) (by omega) dX2_breaks_59 (fun v w1 hp => ?_)
              obtain ⟨rfl, rfl⟩ := hp
              refine g_nrm (cs1 := [wM, fz, [(n, ob 1 [.ref lm, .ref lb, .ref lr, .int (nLo P), .int (nNow P)])], wm, wr, wq]) (st1 := [.int (bI (differB M51 M81)), .int (brk (prUp (twoF (nM P)) k (o + 1)) (prUp (difF (nM P)) k o) false false)]) rfl rfl ?_
              refine g_val (v := if (differB M51 M81) = false then 0 else 2) (pcJ := 70) (st1 := [.int (brk (prUp (twoF (nM P)) k (o + 1)) (prUp (difF (nM P)) k o) false false)]) (fun hj107 => ?_) ?_
              · refine g_if_eq hX (pc := 62) (tgt := 69) dX2_breaks_62 rfl (fun c108_ => ?_) (fun c108_ => ?_)
                · have c108 := bI_0.mp c108_
                  refine g_iconst hX (pc := 69) (v := 0) dX2_breaks_69 (by decide) ?_
                  exact hj107 _ (by rw [if_pos c108])
                · have c108 := mt bI_0.mpr c108_
                  refine g_iconst hX (pc := 65) (v := 2) dX2_breaks_65 (by decide) ?_
                  refine g_goto hX (pc := 66) (tgt := 70) dX2_breaks_66 rfl ?_
                  exact hj107 _ (by rw [if_neg c108])
              refine g_ior hX (pc := 70) dX2_breaks_70 ?_
              refine g_eqi (brk (prUp (twoF (nM P)) k (o + 1)) (prUp (difF (nM P)) k (o + 1)) false false) (by rw [brk_2, prUp_s (difF (nM P)), show difF (nM P) k o = differB M51 M81 from by unfold difF; rw [mG_e hgM51, mG_e hgM81]]) ?_
              refine g_istore_n hX (pc := 71) (lv1 := [(1, .int (brk (prUp (twoF (nM P)) k (o + 1)) (prUp (difF (nM P)) k (o + 1)) false false)), (3, .int (nI o)), (2, .int (nI k)), (0, .ref n)]) dX2_breaks_71 (by decide) rfl ?_
              refine g_iinc hX (pc := 72) (v := nI (o + 1)) (lv1 := [(3, .int (nI (o + 1))), (1, .int (brk (prUp (twoF (nM P)) k (o + 1)) (prUp (difF (nM P)) k (o + 1)) false false)), (2, .int (nI k)), (0, .ref n)]) dX2_breaks_72 1 rfl (nI_1 _) (by decide) rfl ?_
              refine g_goto hX (pc := 75) (tgt := 19) dX2_breaks_75 rfl ?_
              refine g_pk [2, 2, 0, 1, 1, 0] rfl ?_
              refine g_cs (cs1 := [[(n, ob 1 [.ref lm, .ref lb, .ref lr, .int (nLo P), .int (nNow P)])], wm, wM, wr, wq, fz]) rfl ?_
              refine g_lv (lv1 := [(3, .int (nI (o + 1))), (2, .int (nI k)), (1, .int (brk (prUp (twoF (nM P)) k (o + 1)) (prUp (difF (nM P)) k (o + 1)) false false)), (0, .ref n)]) [0, 2, 1, 3] rfl ?_
              refine g_widen (kc1 := 0) (ks1 := 0) (by omega) (by omega) ?_
              exact ih5 (o + 1) (by omega) (by omega)
        refine g_pk [1, 0, 0, 0, 0, 0] rfl ?_
        refine g_cs (cs1 := [[(n, ob 1 [.ref lm, .ref lb, .ref lr, .int (nLo P), .int (nNow P)])], wm, wM, wr, wq, fz]) rfl ?_
        refine g_widen (kc1 := 0) (ks1 := 0) (by omega) (by omega) ?_
        exact lp43 ((k - 0) + 1) 0 (Nat.lt_succ_self _) (Nat.zero_le _)
  refine g_widen (kc1 := 0) (ks1 := 0) (by omega) (by omega) ?_
  exact lp1 ((List.length (nM P) - 0) + 1) 0 (Nat.lt_succ_self _) (Nat.zero_le _)
