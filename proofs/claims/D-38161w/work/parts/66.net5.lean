set_option maxHeartbeats 4000000 in
theorem mt_AL_sizeM (E : EE) (l : Launch) (a : Nat) (m0 : Int32) (arr : Nat) (n : Int32) (w : va_W) (hm : ((a, ob 15 [.int m0, .ref arr, .int n]) ∈ w)) : Mt E l yJ2_size cJ2_size 1 (some .int) 1 0 0 1 [.ref a] [w] (fun (v_ : Option Value) (cs_ : List va_W) => v_ = some (.int n) ∧ cs_ = [w]) := by
  refine Mt.of (by decide) (Nat.le_of_ble_eq_true rfl) (fun X hX hR hin => ?_)
  refine g_lv1 (lv1 := [(0, .ref a)]) rfl ?_
  refine g_aload_n hX (pc := 0) dJ2_size_0 0 rfl ?_
  refine g_getm hX (pc := 1) fcJ2 (sp_in 0 rfl hm) 2 (by decide) q143 rfl (v := .int n) rfl dJ2_size_1 ?_
  refine g_iret hX (pc := 4) hR ?_ (Nat.le_of_ble_eq_true rfl) (Nat.le_of_ble_eq_true rfl) dJ2_size_4
  exact ⟨rfl, rfl⟩

set_option maxHeartbeats 4000000 in
theorem mt_Log_lastM (E : EE) (l : Launch) (a : Nat) (la : Nat) (t : Int32) (v : Int32) (b : Nat) (bt : Int32) (sp : Nat) (m0 : Int32) (arr : Nat) (k : Nat) (w : va_W) (h1 : ((a, ob 9 [.ref la, .int t, .int v, .int (nI b), .int bt, .ref sp]) ∈ w)) (h2 : ((la, ob 15 [.int m0, .ref arr, .int (nI k)]) ∈ w)) : Mt E l yX10_last cX10_last 1 (some .int) 2 0 0 21 [.ref a] [w] (fun (v_ : Option Value) (cs_ : List va_W) => v_ = some (.int (nI (b + k))) ∧ cs_ = [w]) := by
  refine Mt.of (by decide) (Nat.le_of_ble_eq_true rfl) (fun X hX hR hin => ?_)
  refine g_lv1 (lv1 := [(0, .ref a)]) rfl ?_
  refine g_aload_n hX (pc := 0) dX10_last_0 0 rfl ?_
  refine g_getm hX (pc := 1) fcX10 (sp_in 0 rfl h1) 3 (by decide) q850 rfl (v := .int (nI b)) rfl dX10_last_1 ?_
  refine g_aload_n hX (pc := 4) dX10_last_4 0 rfl ?_
  refine g_getm hX (pc := 5) fcX10 (sp_in 0 rfl h1) 0 (by decide) q839 rfl (v := .ref la) rfl dX10_last_5 ?_
  refine g_callF hX (pc := 8) kfJ2_size (mt_AL_sizeM E l la m0 arr (nI k) w (h2)) q240 fcJ2 (sp_in 0 rfl h2) [0] rfl rfl rfl (Nat.le_of_ble_eq_true rfl) (Nat.le_of_ble_eq_true rfl) (Nat.le_of_ble_eq_true rfl) (Nat.le_of_ble_eq_true rfl) (Nat.le_of_ble_eq_true rfl) dX10_last_8 (fun v w1 hp => ?_)
  obtain ⟨rfl, rfl⟩ := hp
  refine g_nrm (cs1 := [w]) (st1 := [.int (nI k), .int (nI b)]) rfl rfl ?_
  refine g_iadd hX (pc := 13) dX10_last_13 ?_
  refine g_iret hX (pc := 14) hR ?_ (Nat.le_of_ble_eq_true rfl) (Nat.le_of_ble_eq_true rfl) dX10_last_14
  exact ⟨by rw [nI_add], rfl⟩

set_option maxHeartbeats 4000000 in
theorem mt_Net_atP (E : EE) (l : Launch) (n : Nat) (lm : Nat) (lb : Nat) (lr : Nat) (lo : Int32) (nw : Int32) (mas : List Nat) (wm : va_W) (k : Nat) (m : Nat) (M : PM) (fz : va_W) (wM : va_W) (hAm : AL E lm mas wm) (hMI : MachIn E fz m M wM) (hk : (mas[k]? = some m)) : Mt E l yX2_at cX2_at 2 (some (.object "Quorumspire$Machine")) 4 0 0 65 [.ref n, .int (nI k)] [[(n, ob 1 [.ref lm, .ref lb, .ref lr, .int lo, .int nw])], wm, wM] (fun (v_ : Option Value) (cs_ : List va_W) => v_ = some (.ref m) ∧ cs_ = [[(n, ob 1 [.ref lm, .ref lb, .ref lr, .int lo, .int nw])], wm, wM]) := by
  refine Mt.of (by decide) (Nat.le_of_ble_eq_true rfl) (fun X hX hR hin => ?_)
  refine g_lv1 (lv1 := [(0, .ref n), (1, .int (nI k))]) rfl ?_
  refine g_aload_n hX (pc := 0) dX2_at_0 0 rfl ?_
  refine g_get hX (pc := 1) fcX2 0 rfl 0 (by decide) q155 rfl (v := .ref lm) rfl dX2_at_1 ?_
  refine g_iload_n hX (pc := 4) dX2_at_4 1 rfl ?_
  obtain ⟨fs1, hm2⟩ := AL.head hAm
  refine g_callF hX (pc := 5) kfJ2_get (mt_AL_get E l lm mas wm k m hAm (hk)) q203 fcJ2 (sp_in 1 rfl hm2) [1] rfl rfl rfl (Nat.le_of_ble_eq_true rfl) (Nat.le_of_ble_eq_true rfl) (Nat.le_of_ble_eq_true rfl) (Nat.le_of_ble_eq_true rfl) (Nat.le_of_ble_eq_true rfl) dX2_at_5 (fun v w1 hp => ?_)
  obtain ⟨rfl, rfl⟩ := hp
  refine g_nrm (cs1 := [wm, [(n, ob 1 [.ref lm, .ref lb, .ref lr, .int lo, .int nw])], wM]) (st1 := [.ref m]) rfl rfl ?_
  obtain ⟨fs3, hm4⟩ := MachIn.head hMI
  refine g_cast hX (pc := 10) fcX9 (sp_in 2 rfl hm4) q221 dX2_at_10 ?_
  refine g_pk [1, 0, 0] rfl ?_
  refine g_cs (cs1 := [[(n, ob 1 [.ref lm, .ref lb, .ref lr, .int lo, .int nw])], wm, wM]) rfl ?_
  refine g_aret hX (pc := 13) hR (by first | exact Or.inl ⟨_, rfl⟩ | exact Or.inr ⟨_, rfl⟩) ?_ (Nat.le_of_ble_eq_true rfl) (Nat.le_of_ble_eq_true rfl) dX2_at_13
  exact ⟨rfl, rfl⟩

set_option maxHeartbeats 4000000 in
theorem mt_Net_ofMachine (E : EE) (l : Launch) (n : Nat) (lm : Nat) (lb : Nat) (lr : Nat) (P : PN) (wm : va_W) (wM : va_W) (fz : va_W) (k : Nat) (wh : Nat) (hML : ML E fz lm (nM P) wm wM) (hk : (k < (nM P).length)) (hw : (wh < 9)) : Mt E l yX2_ofMachine cX2_ofMachine 4 (some .int) 5 0 0 86 [.ref n, .int (nI k), .int (nI wh)] [[(n, ob 1 [.ref lm, .ref lb, .ref lr, .int (nLo P), .int (nNow P)])], wm, wM] (fun (v_ : Option Value) (cs_ : List va_W) => v_ = some (.int (oMach (mAt P k) wh)) ∧ cs_ = [[(n, ob 1 [.ref lm, .ref lb, .ref lr, .int (nLo P), .int (nNow P)])], wm, wM]) := by
  refine Mt.of (by decide) (Nat.le_of_ble_eq_true rfl) (fun X hX hR hin => ?_)
  refine g_lv1 (lv1 := [(0, .ref n), (1, .int (nI k)), (2, .int (nI wh))]) rfl ?_
  refine g_aload_n hX (pc := 0) dX2_ofMachine_0 0 rfl ?_
  refine g_iload_n hX (pc := 1) dX2_ofMachine_1 1 rfl ?_
  obtain ⟨M7, hgM7⟩ := get_ex (l := (nM P)) (i := k) (hk)
  obtain ⟨mas1, m2, hAm3, hml4, hmk5, hMI6⟩ := ML.at hML hgM7
  obtain ⟨rn8, rk9, rl10, rs11, rst12, la13, sp14, lb15, sp216, fn17, fk18, m019, arr20, m121, arr122, h123, h224, h325, h426, h527, h628, h729, hn30⟩ := hMI6.peek
  refine g_callV hX (pc := 2) kX2_at (mt_Net_atP E l n lm lb lr (nLo P) (nNow P) mas1 wm k m2 M7 fz wM hAm3 hMI6 (hmk5)) q198 fcX2 (sp_mem (i := 0) rfl) [0, 0, 0] rfl rfl rfl (Nat.le_of_ble_eq_true rfl) (Nat.le_of_ble_eq_true rfl) (Nat.le_of_ble_eq_true rfl) (Nat.le_of_ble_eq_true rfl) (Nat.le_of_ble_eq_true rfl) dX2_ofMachine_2 (fun v w1 hp => ?_)
  obtain ⟨rfl, rfl⟩ := hp
  refine g_nrm (cs1 := [[(n, ob 1 [.ref lm, .ref lb, .ref lr, .int (nLo P), .int (nNow P)])], wm, wM]) (st1 := [.ref m2]) rfl rfl ?_
  refine g_astore_n hX (pc := 5) (lv1 := [(3, .ref m2), (0, .ref n), (1, .int (nI k)), (2, .int (nI wh))]) dX2_ofMachine_5 (by decide) rfl ?_
  refine g_iload_n hX (pc := 6) dX2_ofMachine_6 3 rfl ?_
  rcases (show wh = 0 ∨ wh = 1 ∨ wh = 2 ∨ wh = 3 ∨ wh = 4 ∨ wh = 5 ∨ wh = 6 ∨ wh = 7 ∨ (wh < 0 ∨ 7 < wh) by omega) with h7_0 | h7_1 | h7_2 | h7_3 | h7_4 | h7_5 | h7_6 | h7_7 | h7_d
  · refine g_tableIn hX (pc := 7) (tgt := 52) (off := 45) dX2_ofMachine_7 (by rw [h7_0]; decide) (by rw [h7_0]; decide) (by rw [h7_0]; rfl) rfl ?_
    refine g_aload_n hX (pc := 52) dX2_ofMachine_52 0 rfl ?_
    refine g_getNm hX (pc := 53) fcX9 (sp_in 2 rfl h123) 6 (by decide) q941 rfl (v := .int (mR M7)) rfl dX2_ofMachine_53 ?_
    refine g_iret hX (pc := 56) hR ?_ (Nat.le_of_ble_eq_true rfl) (Nat.le_of_ble_eq_true rfl) dX2_ofMachine_56
    have hMe : mAt P k = M7 := mAt_get hgM7
    rw [hMe]
    first | (rw [h7_0]; exact ⟨rfl, rfl⟩) | (rw [h7_1]; exact ⟨rfl, rfl⟩) | (rw [h7_2]; exact ⟨rfl, rfl⟩) | (rw [h7_3]; exact ⟨rfl, rfl⟩) | (rw [h7_4]; exact ⟨rfl, rfl⟩) | (rw [h7_5]; exact ⟨rfl, rfl⟩) | (rw [h7_6]; exact ⟨rfl, rfl⟩) | (rw [h7_7]; exact ⟨rfl, rfl⟩)
  · refine g_tableIn hX (pc := 7) (tgt := 57) (off := 50) dX2_ofMachine_7 (by rw [h7_1]; decide) (by rw [h7_1]; decide) (by rw [h7_1]; rfl) rfl ?_
    refine g_aload_n hX (pc := 57) dX2_ofMachine_57 0 rfl ?_
    refine g_getNm hX (pc := 58) fcX9 (sp_in 2 rfl h123) 3 (by decide) q933 rfl (v := .ref rl10) rfl dX2_ofMachine_58 ?_
    refine g_getNm hX (pc := 61) fcX10 (sp_in 2 rfl h224) 1 (by decide) q844 rfl (v := .int (lT (mL M7))) rfl dX2_ofMachine_61 ?_
    refine g_iret hX (pc := 64) hR ?_ (Nat.le_of_ble_eq_true rfl) (Nat.le_of_ble_eq_true rfl) dX2_ofMachine_64
    have hMe : mAt P k = M7 := mAt_get hgM7
    rw [hMe]
    first | (rw [h7_0]; exact ⟨rfl, rfl⟩) | (rw [h7_1]; exact ⟨rfl, rfl⟩) | (rw [h7_2]; exact ⟨rfl, rfl⟩) | (rw [h7_3]; exact ⟨rfl, rfl⟩) | (rw [h7_4]; exact ⟨rfl, rfl⟩) | (rw [h7_5]; exact ⟨rfl, rfl⟩) | (rw [h7_6]; exact ⟨rfl, rfl⟩) | (rw [h7_7]; exact ⟨rfl, rfl⟩)
  · refine g_tableIn hX (pc := 7) (tgt := 65) (off := 58) dX2_ofMachine_7 (by rw [h7_2]; decide) (by rw [h7_2]; decide) (by rw [h7_2]; rfl) rfl ?_
    refine g_aload_n hX (pc := 65) dX2_ofMachine_65 0 rfl ?_
    refine g_getNm hX (pc := 66) fcX9 (sp_in 2 rfl h123) 3 (by decide) q933 rfl (v := .ref rl10) rfl dX2_ofMachine_66 ?_
    refine g_getNm hX (pc := 69) fcX10 (sp_in 2 rfl h224) 2 (by decide) q848 rfl (v := .int (lV (mL M7))) rfl dX2_ofMachine_69 ?_
    refine g_iret hX (pc := 72) hR ?_ (Nat.le_of_ble_eq_true rfl) (Nat.le_of_ble_eq_true rfl) dX2_ofMachine_72
    have hMe : mAt P k = M7 := mAt_get hgM7
    rw [hMe]
    first | (rw [h7_0]; exact ⟨rfl, rfl⟩) | (rw [h7_1]; exact ⟨rfl, rfl⟩) | (rw [h7_2]; exact ⟨rfl, rfl⟩) | (rw [h7_3]; exact ⟨rfl, rfl⟩) | (rw [h7_4]; exact ⟨rfl, rfl⟩) | (rw [h7_5]; exact ⟨rfl, rfl⟩) | (rw [h7_6]; exact ⟨rfl, rfl⟩) | (rw [h7_7]; exact ⟨rfl, rfl⟩)
  · refine g_tableIn hX (pc := 7) (tgt := 73) (off := 66) dX2_ofMachine_7 (by rw [h7_3]; decide) (by rw [h7_3]; decide) (by rw [h7_3]; rfl) rfl ?_
    refine g_aload_n hX (pc := 73) dX2_ofMachine_73 0 rfl ?_
    refine g_getNm hX (pc := 74) fcX9 (sp_in 2 rfl h123) 3 (by decide) q933 rfl (v := .ref rl10) rfl dX2_ofMachine_74 ?_
    refine g_getNm hX (pc := 77) fcX10 (sp_in 2 rfl h224) 3 (by decide) q852 rfl (v := .int (nI (lB (mL M7)))) rfl dX2_ofMachine_77 ?_
    refine g_iret hX (pc := 80) hR ?_ (Nat.le_of_ble_eq_true rfl) (Nat.le_of_ble_eq_true rfl) dX2_ofMachine_80
    have hMe : mAt P k = M7 := mAt_get hgM7
    rw [hMe]
    first | (rw [h7_0]; exact ⟨rfl, rfl⟩) | (rw [h7_1]; exact ⟨rfl, rfl⟩) | (rw [h7_2]; exact ⟨rfl, rfl⟩) | (rw [h7_3]; exact ⟨rfl, rfl⟩) | (rw [h7_4]; exact ⟨rfl, rfl⟩) | (rw [h7_5]; exact ⟨rfl, rfl⟩) | (rw [h7_6]; exact ⟨rfl, rfl⟩) | (rw [h7_7]; exact ⟨rfl, rfl⟩)
  · refine g_tableIn hX (pc := 7) (tgt := 81) (off := 74) dX2_ofMachine_7 (by rw [h7_4]; decide) (by rw [h7_4]; decide) (by rw [h7_4]; rfl) rfl ?_
    refine g_aload_n hX (pc := 81) dX2_ofMachine_81 0 rfl ?_
    refine g_getNm hX (pc := 82) fcX9 (sp_in 2 rfl h123) 3 (by decide) q933 rfl (v := .ref rl10) rfl dX2_ofMachine_82 ?_
    refine g_callV hX (pc := 85) kX10_last (mt_Log_lastM E l rl10 la13 (lT (mL M7)) (lV (mL M7)) (lB (mL M7)) (lBT (mL M7)) sp14 m019 arr20 (List.length (lE (mL M7))) wM (h224) (h325)) q235 fcX10 (sp_in 2 rfl h224) [2] rfl rfl rfl (Nat.le_of_ble_eq_true rfl) (Nat.le_of_ble_eq_true rfl) (Nat.le_of_ble_eq_true rfl) (Nat.le_of_ble_eq_true rfl) (Nat.le_of_ble_eq_true rfl) dX2_ofMachine_85 (fun v w1 hp => ?_)
    obtain ⟨rfl, rfl⟩ := hp
    refine g_nrm (cs1 := [wM, [(n, ob 1 [.ref lm, .ref lb, .ref lr, .int (nLo P), .int (nNow P)])], wm]) (st1 := [.int (nI ((lB (mL M7)) + (List.length (lE (mL M7)))))]) rfl rfl ?_
    refine g_pk [1, 1, 0] rfl ?_
    refine g_cs (cs1 := [[(n, ob 1 [.ref lm, .ref lb, .ref lr, .int (nLo P), .int (nNow P)])], wm, wM]) rfl ?_
    refine g_iret hX (pc := 88) hR ?_ (Nat.le_of_ble_eq_true rfl) (Nat.le_of_ble_eq_true rfl) dX2_ofMachine_88
    have hMe : mAt P k = M7 := mAt_get hgM7
    rw [hMe]
    first | (rw [h7_0]; exact ⟨rfl, rfl⟩) | (rw [h7_1]; exact ⟨rfl, rfl⟩) | (rw [h7_2]; exact ⟨rfl, rfl⟩) | (rw [h7_3]; exact ⟨rfl, rfl⟩) | (rw [h7_4]; exact ⟨rfl, rfl⟩) | (rw [h7_5]; exact ⟨rfl, rfl⟩) | (rw [h7_6]; exact ⟨rfl, rfl⟩) | (rw [h7_7]; exact ⟨rfl, rfl⟩)
  · refine g_tableIn hX (pc := 7) (tgt := 89) (off := 82) dX2_ofMachine_7 (by rw [h7_5]; decide) (by rw [h7_5]; decide) (by rw [h7_5]; rfl) rfl ?_
    refine g_aload_n hX (pc := 89) dX2_ofMachine_89 0 rfl ?_
    refine g_getNm hX (pc := 90) fcX9 (sp_in 2 rfl h123) 8 (by decide) q945 rfl (v := .int (nI (mSu M7))) rfl dX2_ofMachine_90 ?_
    refine g_iret hX (pc := 93) hR ?_ (Nat.le_of_ble_eq_true rfl) (Nat.le_of_ble_eq_true rfl) dX2_ofMachine_93
    have hMe : mAt P k = M7 := mAt_get hgM7
    rw [hMe]
    first | (rw [h7_0]; exact ⟨rfl, rfl⟩) | (rw [h7_1]; exact ⟨rfl, rfl⟩) | (rw [h7_2]; exact ⟨rfl, rfl⟩) | (rw [h7_3]; exact ⟨rfl, rfl⟩) | (rw [h7_4]; exact ⟨rfl, rfl⟩) | (rw [h7_5]; exact ⟨rfl, rfl⟩) | (rw [h7_6]; exact ⟨rfl, rfl⟩) | (rw [h7_7]; exact ⟨rfl, rfl⟩)
  · refine g_tableIn hX (pc := 7) (tgt := 94) (off := 87) dX2_ofMachine_7 (by rw [h7_6]; decide) (by rw [h7_6]; decide) (by rw [h7_6]; rfl) rfl ?_
    refine g_aload_n hX (pc := 94) dX2_ofMachine_94 0 rfl ?_
    refine g_getNm hX (pc := 95) fcX9 (sp_in 2 rfl h123) 9 (by decide) q947 rfl (v := .int (nI (mDn M7))) rfl dX2_ofMachine_95 ?_
    refine g_iret hX (pc := 98) hR ?_ (Nat.le_of_ble_eq_true rfl) (Nat.le_of_ble_eq_true rfl) dX2_ofMachine_98
    have hMe : mAt P k = M7 := mAt_get hgM7
    rw [hMe]
    first | (rw [h7_0]; exact ⟨rfl, rfl⟩) | (rw [h7_1]; exact ⟨rfl, rfl⟩) | (rw [h7_2]; exact ⟨rfl, rfl⟩) | (rw [h7_3]; exact ⟨rfl, rfl⟩) | (rw [h7_4]; exact ⟨rfl, rfl⟩) | (rw [h7_5]; exact ⟨rfl, rfl⟩) | (rw [h7_6]; exact ⟨rfl, rfl⟩) | (rw [h7_7]; exact ⟨rfl, rfl⟩)
  · refine g_tableIn hX (pc := 7) (tgt := 99) (off := 92) dX2_ofMachine_7 (by rw [h7_7]; decide) (by rw [h7_7]; decide) (by rw [h7_7]; rfl) rfl ?_
    refine g_aload_n hX (pc := 99) dX2_ofMachine_99 0 rfl ?_
    refine g_getNm hX (pc := 100) fcX9 (sp_in 2 rfl h123) 7 (by decide) q943 rfl (v := .int (mVt M7)) rfl dX2_ofMachine_100 ?_
    refine g_iret hX (pc := 103) hR ?_ (Nat.le_of_ble_eq_true rfl) (Nat.le_of_ble_eq_true rfl) dX2_ofMachine_103
    have hMe : mAt P k = M7 := mAt_get hgM7
    rw [hMe]
    first | (rw [h7_0]; exact ⟨rfl, rfl⟩) | (rw [h7_1]; exact ⟨rfl, rfl⟩) | (rw [h7_2]; exact ⟨rfl, rfl⟩) | (rw [h7_3]; exact ⟨rfl, rfl⟩) | (rw [h7_4]; exact ⟨rfl, rfl⟩) | (rw [h7_5]; exact ⟨rfl, rfl⟩) | (rw [h7_6]; exact ⟨rfl, rfl⟩) | (rw [h7_7]; exact ⟨rfl, rfl⟩)
  · have h7_d : 7 < wh := by omega
    refine g_tableOut hX (pc := 7) (tgt := 104) dX2_ofMachine_7 (by rw [nI_toInt (by omega)]; omega) rfl ?_
    refine g_aload_n hX (pc := 104) dX2_ofMachine_104 0 rfl ?_
    refine g_getNm hX (pc := 105) fcX9 (sp_in 2 rfl h123) 10 (by decide) q949 rfl (v := .int (bI (mLz M7))) rfl dX2_ofMachine_105 ?_
    refine g_val (v := if (mLz M7) = false then 0 else 1) (pcJ := 116) (st1 := []) (fun hj31 => ?_) ?_
    · refine g_if_eq hX (pc := 108) (tgt := 115) dX2_ofMachine_108 rfl (fun c32_ => ?_) (fun c32_ => ?_)
      · have c32 := bI_0.mp c32_
        refine g_iconst hX (pc := 115) (v := 0) dX2_ofMachine_115 (by decide) ?_
        exact hj31 _ (by rw [if_pos c32])
      · have c32 := mt bI_0.mpr c32_
        refine g_iconst hX (pc := 111) (v := 1) dX2_ofMachine_111 (by decide) ?_
        refine g_goto hX (pc := 112) (tgt := 116) dX2_ofMachine_112 rfl ?_
        exact hj31 _ (by rw [if_neg c32])
    refine g_iret hX (pc := 116) hR ?_ (Nat.le_of_ble_eq_true rfl) (Nat.le_of_ble_eq_true rfl) dX2_ofMachine_116
    have hMe : mAt P k = M7 := mAt_get hgM7
    rw [hMe, show wh = 8 by omega]
    refine ⟨?_, rfl⟩
    show _ = some (Value.int (bI (mLz M7)))
    cases mLz M7 <;> rfl

set_option maxHeartbeats 4000000 in
theorem mt_Machine_isLeaderI (E : EE) (l : Launch) (m : Nat) (M : PM) (fz : va_W) (wM : va_W) (hMI : MachIn E fz m M wM) : Mt E l yX9_isLeader cX9_isLeader 1 (some .boolean) 1 0 0 1 [.ref m] [wM] (fun (v_ : Option Value) (cs_ : List va_W) => v_ = some (.int (if mR M = 3 then 1 else 0)) ∧ cs_ = [wM]) := by
  refine Mt.of (by decide) (Nat.le_of_ble_eq_true rfl) (fun X hX hR hin => ?_)
  refine g_lv1 (lv1 := [(0, .ref m)]) rfl ?_
  obtain ⟨rn1, rk2, rl3, rs4, rst5, la6, sp7, lb8, sp29, fn10, fk11, m012, arr13, m114, arr115, h116, h217, h318, h419, h520, h621, h722, hn23⟩ := hMI.peek
  refine g_aload_n hX (pc := 0) dX9_isLeader_0 0 rfl ?_
  refine g_getm hX (pc := 1) fcX9 (sp_in 0 rfl h116) 6 (by decide) q940 rfl (v := .int (mR M)) rfl dX9_isLeader_1 ?_
  refine g_iconst hX (pc := 4) (v := 3) dX9_isLeader_4 (by decide) ?_
  refine g_val (v := if (mR M) = 3 then 1 else 0) (pcJ := 13) (st1 := []) (fun hj24 => ?_) ?_
  · refine g_icmp_ne hX (pc := 5) (tgt := 12) dX9_isLeader_5 rfl (fun c25 => ?_) (fun c25 => ?_)
    · refine g_iconst hX (pc := 12) (v := 0) dX9_isLeader_12 (by decide) ?_
      exact hj24 _ (by rw [if_neg c25])
    · refine g_iconst hX (pc := 8) (v := 1) dX9_isLeader_8 (by decide) ?_
      refine g_goto hX (pc := 9) (tgt := 13) dX9_isLeader_9 rfl ?_
      exact hj24 _ (by rw [if_pos c25])
  refine g_zret hX (pc := 13) hR (nz10 _) ?_ (Nat.le_of_ble_eq_true rfl) (Nat.le_of_ble_eq_true rfl) dX9_isLeader_13
  exact ⟨rfl, rfl⟩

set_option maxHeartbeats 4000000 in
theorem mt_Machine_isUpI (E : EE) (l : Launch) (m : Nat) (M : PM) (fz : va_W) (wM : va_W) (hMI : MachIn E fz m M wM) : Mt E l yX9_isUp cX9_isUp 1 (some .boolean) 1 0 0 1 [.ref m] [wM] (fun (v_ : Option Value) (cs_ : List va_W) => v_ = some (.int (if mR M = 0 then 0 else 1)) ∧ cs_ = [wM]) := by
  refine Mt.of (by decide) (Nat.le_of_ble_eq_true rfl) (fun X hX hR hin => ?_)
  refine g_lv1 (lv1 := [(0, .ref m)]) rfl ?_
  obtain ⟨rn1, rk2, rl3, rs4, rst5, la6, sp7, lb8, sp29, fn10, fk11, m012, arr13, m114, arr115, h116, h217, h318, h419, h520, h621, h722, hn23⟩ := hMI.peek
  refine g_aload_n hX (pc := 0) dX9_isUp_0 0 rfl ?_
  refine g_getm hX (pc := 1) fcX9 (sp_in 0 rfl h116) 6 (by decide) q940 rfl (v := .int (mR M)) rfl dX9_isUp_1 ?_
  refine g_val (v := if (mR M) = 0 then 0 else 1) (pcJ := 12) (st1 := []) (fun hj24 => ?_) ?_
  · refine g_if_eq hX (pc := 4) (tgt := 11) dX9_isUp_4 rfl (fun c25 => ?_) (fun c25 => ?_)
    · refine g_iconst hX (pc := 11) (v := 0) dX9_isUp_11 (by decide) ?_
      exact hj24 _ (by rw [if_pos c25])
    · refine g_iconst hX (pc := 7) (v := 1) dX9_isUp_7 (by decide) ?_
      refine g_goto hX (pc := 8) (tgt := 12) dX9_isUp_8 rfl ?_
      exact hj24 _ (by rw [if_neg c25])
  refine g_zret hX (pc := 12) hR (nz01 _) ?_ (Nat.le_of_ble_eq_true rfl) (Nat.le_of_ble_eq_true rfl) dX9_isUp_12
  exact ⟨rfl, rfl⟩

set_option maxHeartbeats 4000000 in
theorem mt_Net_follows (E : EE) (l : Launch) (n : Nat) (lm : Nat) (lb : Nat) (lr : Nat) (P : PN) (wm : va_W) (wM : va_W) (fz : va_W) (k : Nat) (o : Nat) (nx : Bool) (hML : ML E fz lm (nM P) wm wM) (hk : (k < (nM P).length)) (hk5 : (k < 5)) (ho : (o < 5)) : Mt E l yX2_follows cX2_follows 5 (some .int) 5 0 0 86 [.ref n, .int (nI k), .int (nI o), .int (bI nx)] [[(n, ob 1 [.ref lm, .ref lb, .ref lr, .int (nLo P), .int (nNow P)])], wm, wM] (fun (v_ : Option Value) (cs_ : List va_W) => v_ = some (.int (oFol (mAt P k) k o nx)) ∧ cs_ = [[(n, ob 1 [.ref lm, .ref lb, .ref lr, .int (nLo P), .int (nNow P)])], wm, wM]) := by
  refine Mt.of (by decide) (Nat.le_of_ble_eq_true rfl) (fun X hX hR hin => ?_)
  refine g_lv1 (lv1 := [(0, .ref n), (1, .int (nI k)), (2, .int (nI o)), (3, .int (bI nx))]) rfl ?_
  refine g_aload_n hX (pc := 0) dX2_follows_0 0 rfl ?_
  refine g_iload_n hX (pc := 1) dX2_follows_1 1 rfl ?_
  obtain ⟨M7, hgM7⟩ := get_ex (l := (nM P)) (i := k) (hk)
  obtain ⟨mas1, m2, hAm3, hml4, hmk5, hMI6⟩ := ML.at hML hgM7
  obtain ⟨rn8, rk9, rl10, rs11, rst12, la13, sp14, lb15, sp216, fn17, fk18, m019, arr20, m121, arr122, h123, h224, h325, h426, h527, h628, h729, hn30⟩ := hMI6.peek
  refine g_callV hX (pc := 2) kX2_at (mt_Net_atP E l n lm lb lr (nLo P) (nNow P) mas1 wm k m2 M7 fz wM hAm3 hMI6 (hmk5)) q198 fcX2 (sp_mem (i := 0) rfl) [0, 0, 0] rfl rfl rfl (Nat.le_of_ble_eq_true rfl) (Nat.le_of_ble_eq_true rfl) (Nat.le_of_ble_eq_true rfl) (Nat.le_of_ble_eq_true rfl) (Nat.le_of_ble_eq_true rfl) dX2_follows_2 (fun v w1 hp => ?_)
  obtain ⟨rfl, rfl⟩ := hp
  refine g_nrm (cs1 := [[(n, ob 1 [.ref lm, .ref lb, .ref lr, .int (nLo P), .int (nNow P)])], wm, wM]) (st1 := [.ref m2]) rfl rfl ?_
  refine g_astore hX (pc := 5) (lv1 := [(4, .ref m2), (0, .ref n), (1, .int (nI k)), (2, .int (nI o)), (3, .int (bI nx))]) dX2_follows_5 (by decide) rfl ?_
  refine g_aload hX (pc := 7) dX2_follows_7 0 rfl ?_
  refine g_callV hX (pc := 9) kX9_isLeader (mt_Machine_isLeaderI E l m2 M7 fz wM hMI6) q225 fcX9 (sp_in 2 rfl h123) [2] rfl rfl rfl (Nat.le_of_ble_eq_true rfl) (Nat.le_of_ble_eq_true rfl) (Nat.le_of_ble_eq_true rfl) (Nat.le_of_ble_eq_true rfl) (Nat.le_of_ble_eq_true rfl) dX2_follows_9 (fun v w1 hp => ?_)
  obtain ⟨rfl, rfl⟩ := hp
  refine g_nrm (cs1 := [wM, [(n, ob 1 [.ref lm, .ref lb, .ref lr, .int (nLo P), .int (nNow P)])], wm]) (st1 := [.int (if mR M7 = 3 then 1 else 0)]) rfl rfl ?_
  refine g_val (v := if mR M7 = 3 then (if (nI k) = (nI o) then (-1) else (if nx = false then (fk18 o) else (fn17 o))) else (-1)) (pcJ := 45) (st1 := []) (fun hj31 => ?_) ?_
  · refine g_if_eq hX (pc := 12) (tgt := 20) dX2_follows_12 rfl (fun c32_ => ?_) (fun c32_ => ?_)
    · have c32 := z10.mp c32_
      refine g_iconst hX (pc := 20) (v := (-1)) dX2_follows_20 (by decide) ?_
      refine g_goto hX (pc := 21) (tgt := 45) dX2_follows_21 rfl ?_
      exact hj31 _ (by rw [if_neg c32])
    · have c32 := z10n.mp c32_
      refine g_iload_n hX (pc := 15) dX2_follows_15 2 rfl ?_
      refine g_iload_n hX (pc := 16) dX2_follows_16 3 rfl ?_
      refine g_icmp_ne hX (pc := 17) (tgt := 24) dX2_follows_17 rfl (fun c33 => ?_) (fun c33 => ?_)
      · refine g_iload_n hX (pc := 24) dX2_follows_24 4 rfl ?_
        refine g_if_eq hX (pc := 25) (tgt := 38) dX2_follows_25 rfl (fun c34_ => ?_) (fun c34_ => ?_)
        · have c34 := bI_0.mp c34_
          refine g_aload hX (pc := 38) dX2_follows_38 0 rfl ?_
          refine g_getNm hX (pc := 40) fcX9 (sp_in 0 rfl h123) 2 (by decide) q930 rfl (v := .ref rk9) rfl dX2_follows_40 ?_
          refine g_iload_n hX (pc := 43) dX2_follows_43 3 rfl ?_
          refine g_iald hX (pc := 44) (sp_in 0 rfl h527) (v := fk18 o) (vp_in_nI (by omega) (by omega)) (by rw [nI_clamp (by omega)]) dX2_follows_44 ?_
          exact hj31 _ (by rw [if_pos c32, if_neg c33, if_pos c34])
        · have c34 := mt bI_0.mpr c34_
          refine g_aload hX (pc := 28) dX2_follows_28 0 rfl ?_
          refine g_getNm hX (pc := 30) fcX9 (sp_in 0 rfl h123) 1 (by decide) q928 rfl (v := .ref rn8) rfl dX2_follows_30 ?_
          refine g_iload_n hX (pc := 33) dX2_follows_33 3 rfl ?_
          refine g_iald hX (pc := 34) (sp_in 0 rfl h426) (v := fn17 o) (vp_in_nI (by omega) (by omega)) (by rw [nI_clamp (by omega)]) dX2_follows_34 ?_
          refine g_goto hX (pc := 35) (tgt := 45) dX2_follows_35 rfl ?_
          exact hj31 _ (by rw [if_pos c32, if_neg c33, if_neg c34])
      · refine g_iconst hX (pc := 20) (v := (-1)) dX2_follows_20 (by decide) ?_
        refine g_goto hX (pc := 21) (tgt := 45) dX2_follows_21 rfl ?_
        exact hj31 _ (by rw [if_pos c32, if_pos c33])
  refine g_pk [1, 1, 0] rfl ?_
  refine g_cs (cs1 := [[(n, ob 1 [.ref lm, .ref lb, .ref lr, .int (nLo P), .int (nNow P)])], wm, wM]) rfl ?_
  refine g_iret hX (pc := 45) hR ?_ (Nat.le_of_ble_eq_true rfl) (Nat.le_of_ble_eq_true rfl) dX2_follows_45
  rw [show mAt P k = M7 from mAt_get hgM7]
  refine ⟨?_, rfl⟩
  have e : nI k = nI o ↔ k = o := nI_eq (by omega) (by omega)
  have h := hn30 o ho
  unfold oFol
  by_cases c1 : mR M7 = 3 <;> by_cases c2 : k = o <;> cases nx <;> simp_all

set_option maxHeartbeats 4000000 in
theorem mt_Net_countOf (E : EE) (l : Launch) (n : Nat) (lm : Nat) (lb : Nat) (lr : Nat) (P : PN) (wm : va_W) (wM : va_W) (fz : va_W) (r : Int32) (hML : ML E fz lm (nM P) wm wM) (h5 : ((nM P).length ≤ 5)) : Mt E l yX2_countOf cX2_countOf 4 (some .int) 5 0 0 86 [.ref n, .int r] [[(n, ob 1 [.ref lm, .ref lb, .ref lr, .int (nLo P), .int (nNow P)])], wm, wM] (fun (v_ : Option Value) (cs_ : List va_W) => v_ = some (.int (nI (cntOf (nM P) r (List.length (nM P))))) ∧ cs_ = [[(n, ob 1 [.ref lm, .ref lb, .ref lr, .int (nLo P), .int (nNow P)])], wm, wM]) := by
  refine Mt.of (by decide) (Nat.le_of_ble_eq_true rfl) (fun X hX hR hin => ?_)
  refine g_lv1 (lv1 := [(0, .ref n), (1, .int r)]) rfl ?_
  obtain ⟨as1, hal2, hln3⟩ := ML.al hML
  refine g_iconst hX (pc := 0) (v := 0) dX2_countOf_0 (by decide) ?_
  refine g_eqi (nI (cntOf (nM P) r 0)) (rfl) ?_
  refine g_istore_n hX (pc := 1) (lv1 := [(2, .int (nI (cntOf (nM P) r 0))), (0, .ref n), (1, .int r)]) dX2_countOf_1 (by decide) rfl ?_
  refine g_iconst hX (pc := 2) (v := 0) dX2_countOf_2 (by decide) ?_
  refine g_eqi (nI 0) (nI_0.symm) ?_
  refine g_istore_n hX (pc := 3) (lv1 := [(3, .int (nI 0)), (2, .int (nI (cntOf (nM P) r 0))), (0, .ref n), (1, .int r)]) dX2_countOf_3 (by decide) rfl ?_
  have lp4 : ∀ (F1 : Nat) (i : Nat), List.length (nM P) - i < F1 → (i ≤ (nM P).length) → G E l X [[(n, ob 1 [.ref lm, .ref lb, .ref lr, .int (nLo P), .int (nNow P)])], wm, wM] 0 0 4 [(0, .ref n), (1, .int r), (2, .int (nI (cntOf (nM P) r i))), (3, .int (nI i))] [] := by
    intro F1
    induction F1 with
    | zero =>
      intro i hF hi
      exact absurd hF (Nat.not_lt_zero _)
    | succ F1 ih1 =>
      intro i hF hi
      refine g_iload_n hX (pc := 4) dX2_countOf_4 3 rfl ?_
      refine g_aload_n hX (pc := 5) dX2_countOf_5 0 rfl ?_
      refine g_get hX (pc := 6) fcX2 0 rfl 0 (by decide) q155 rfl (v := .ref lm) rfl dX2_countOf_6 ?_
      obtain ⟨fs5, hm6⟩ := AL.head hal2
      refine g_callF hX (pc := 9) kfJ2_size (mt_AL_size E l lm as1 wm hal2) q189 fcJ2 (sp_in 1 rfl hm6) [1] rfl rfl rfl (Nat.le_of_ble_eq_true rfl) (Nat.le_of_ble_eq_true rfl) (Nat.le_of_ble_eq_true rfl) (by omega) (by omega) dX2_countOf_9 (fun v w1 hp => ?_)
      obtain ⟨rfl, rfl⟩ := hp
      refine g_nrm (cs1 := [wm, [(n, ob 1 [.ref lm, .ref lb, .ref lr, .int (nLo P), .int (nNow P)])], wM]) (st1 := [.int (nI (List.length as1)), .int (nI i)]) rfl rfl ?_
      refine g_eqi (nI (List.length (nM P))) (by rw [hln3]) ?_
      refine g_icmp_ge hX (pc := 14) (tgt := 43) dX2_countOf_14 rfl (fun c7 => ?_) (fun c7 => ?_)
      · have d1 : i = (nM P).length := by
          have := (nI_leI (by omega) (by omega)).mp c7
          omega
        subst d1
        refine g_iload_n hX (pc := 43) dX2_countOf_43 2 rfl ?_
        refine g_pk [1, 0, 0] rfl ?_
        refine g_cs (cs1 := [[(n, ob 1 [.ref lm, .ref lb, .ref lr, .int (nLo P), .int (nNow P)])], wm, wM]) rfl ?_
        refine g_iret hX (pc := 44) hR ?_ (by omega) (by omega) dX2_countOf_44
        exact ⟨rfl, rfl⟩
      · have d1 : i < (nM P).length := by
          have := mt (nI_leI (by omega) (by omega)).mpr c7
          omega
        refine g_iload_n hX (pc := 17) dX2_countOf_17 2 rfl ?_
        refine g_aload_n hX (pc := 18) dX2_countOf_18 0 rfl ?_
        refine g_iload_n hX (pc := 19) dX2_countOf_19 3 rfl ?_
        obtain ⟨M14, hgM14⟩ := get_ex (l := (nM P)) (i := i) (d1)
        obtain ⟨mas8, m9, hAm10, hml11, hmk12, hMI13⟩ := ML.at hML hgM14
        obtain ⟨rn15, rk16, rl17, rs18, rst19, la20, sp21, lb22, sp223, fn24, fk25, m026, arr27, m128, arr129, h130, h231, h332, h433, h534, h635, h736, hn37⟩ := hMI13.peek
        refine g_callV hX (pc := 20) kX2_at (mt_Net_atP E l n lm lb lr (nLo P) (nNow P) mas8 wm i m9 M14 fz wM hAm10 hMI13 (hmk12)) q198 fcX2 (sp_mem (i := 1) rfl) [1, 0, 0] rfl rfl rfl (Nat.le_of_ble_eq_true rfl) (Nat.le_of_ble_eq_true rfl) (Nat.le_of_ble_eq_true rfl) (by omega) (by omega) dX2_countOf_20 (fun v w1 hp => ?_)
        obtain ⟨rfl, rfl⟩ := hp
        refine g_nrm (cs1 := [[(n, ob 1 [.ref lm, .ref lb, .ref lr, .int (nLo P), .int (nNow P)])], wm, wM]) (st1 := [.ref m9, .int (nI (cntOf (nM P) r i))]) rfl rfl ?_
        refine g_getNm hX (pc := 23) fcX9 (sp_in 2 rfl h130) 6 (by decide) q941 rfl (v := .int (mR M14)) rfl dX2_countOf_23 ?_
        refine g_iload_n hX (pc := 26) dX2_countOf_26 1 rfl ?_
        refine g_val (v := if (mR M14) = r then 1 else 0) (pcJ := 35) (st1 := [.int (nI (cntOf (nM P) r i))]) (fun hj38 => ?_) ?_
        · refine g_icmp_ne hX (pc := 27) (tgt := 34) dX2_countOf_27 rfl (fun c39 => ?_) (fun c39 => ?_)
          · refine g_iconst hX (pc := 34) (v := 0) dX2_countOf_34 (by decide) ?_
            exact hj38 _ (by rw [if_neg c39])
          · refine g_iconst hX (pc := 30) (v := 1) dX2_countOf_30 (by decide) ?_
            refine g_goto hX (pc := 31) (tgt := 35) dX2_countOf_31 rfl ?_
            exact hj38 _ (by rw [if_pos c39])
        refine g_iadd hX (pc := 35) dX2_countOf_35 ?_
        refine g_eqi (nI (cntOf (nM P) r (i + 1))) (cnt_s hgM14) ?_
        refine g_istore_n hX (pc := 36) (lv1 := [(2, .int (nI (cntOf (nM P) r (i + 1)))), (0, .ref n), (1, .int r), (3, .int (nI i))]) dX2_countOf_36 (by decide) rfl ?_
        refine g_iinc hX (pc := 37) (v := nI (i + 1)) (lv1 := [(3, .int (nI (i + 1))), (2, .int (nI (cntOf (nM P) r (i + 1)))), (0, .ref n), (1, .int r)]) dX2_countOf_37 3 rfl (nI_1 _) (by decide) rfl ?_
        refine g_goto hX (pc := 40) (tgt := 4) dX2_countOf_40 rfl ?_
        refine g_lv (lv1 := [(0, .ref n), (1, .int r), (2, .int (nI (cntOf (nM P) r (i + 1)))), (3, .int (nI (i + 1)))]) [2, 3, 1, 0] rfl ?_
        refine g_widen (kc1 := 0) (ks1 := 0) (by omega) (by omega) ?_
        exact ih1 (i + 1) (by omega) (by omega)
  refine g_lv (lv1 := [(0, .ref n), (1, .int r), (2, .int (nI (cntOf (nM P) r 0))), (3, .int (nI 0))]) [2, 3, 1, 0] rfl ?_
  refine g_widen (kc1 := 0) (ks1 := 0) (by omega) (by omega) ?_
  exact lp4 ((List.length (nM P) - 0) + 1) 0 (Nat.lt_succ_self _) (Nat.zero_le _)

set_option maxHeartbeats 4000000 in
theorem mt_Net_gretT (E : EE) (l : Launch) (n : Nat) (lm : Nat) (lb : Nat) (lr : Nat) (P : PN) (wm : va_W) (wM : va_W) (fz : va_W) (hML : ML E fz lm (nM P) wm wM) (h5 : ((nM P).length ≤ 5)) : Mt E l yX2_greatest cX2_greatest 4 (some .int) 5 0 0 86 [.ref n, .int 1] [[(n, ob 1 [.ref lm, .ref lb, .ref lr, .int (nLo P), .int (nNow P)])], wm, wM] (fun (v_ : Option Value) (cs_ : List va_W) => v_ = some (.int (gretT (nM P) (List.length (nM P)))) ∧ cs_ = [[(n, ob 1 [.ref lm, .ref lb, .ref lr, .int (nLo P), .int (nNow P)])], wm, wM]) := by
  refine Mt.of (by decide) (Nat.le_of_ble_eq_true rfl) (fun X hX hR hin => ?_)
  refine g_lv1 (lv1 := [(0, .ref n), (1, .int 1)]) rfl ?_
  obtain ⟨as1, hal2, hln3⟩ := ML.al hML
  refine g_iconst hX (pc := 0) (v := 0) dX2_greatest_0 (by decide) ?_
  refine g_eqi (gretT (nM P) 0) (rfl) ?_
  refine g_istore_n hX (pc := 1) (lv1 := [(2, .int (gretT (nM P) 0)), (0, .ref n), (1, .int 1)]) dX2_greatest_1 (by decide) rfl ?_
  refine g_iconst hX (pc := 2) (v := 0) dX2_greatest_2 (by decide) ?_
  refine g_eqi (nI 0) (nI_0.symm) ?_
  refine g_istore_n hX (pc := 3) (lv1 := [(3, .int (nI 0)), (2, .int (gretT (nM P) 0)), (0, .ref n), (1, .int 1)]) dX2_greatest_3 (by decide) rfl ?_
  have lp4 : ∀ (F1 : Nat) (i : Nat), List.length (nM P) - i < F1 → (i ≤ (nM P).length) → G E l X [[(n, ob 1 [.ref lm, .ref lb, .ref lr, .int (nLo P), .int (nNow P)])], wm, wM] 0 0 4 [(0, .ref n), (1, .int 1), (2, .int (gretT (nM P) i)), (3, .int (nI i))] [] := by
    intro F1
    induction F1 with
    | zero =>
      intro i hF hi
      exact absurd hF (Nat.not_lt_zero _)
    | succ F1 ih1 =>
      intro i hF hi
      refine g_iload_n hX (pc := 4) dX2_greatest_4 3 rfl ?_
      refine g_aload_n hX (pc := 5) dX2_greatest_5 0 rfl ?_
      refine g_get hX (pc := 6) fcX2 0 rfl 0 (by decide) q155 rfl (v := .ref lm) rfl dX2_greatest_6 ?_
      obtain ⟨fs5, hm6⟩ := AL.head hal2
      refine g_callF hX (pc := 9) kfJ2_size (mt_AL_size E l lm as1 wm hal2) q189 fcJ2 (sp_in 1 rfl hm6) [1] rfl rfl rfl (Nat.le_of_ble_eq_true rfl) (Nat.le_of_ble_eq_true rfl) (Nat.le_of_ble_eq_true rfl) (by omega) (by omega) dX2_greatest_9 (fun v w1 hp => ?_)
      obtain ⟨rfl, rfl⟩ := hp
      refine g_nrm (cs1 := [wm, [(n, ob 1 [.ref lm, .ref lb, .ref lr, .int (nLo P), .int (nNow P)])], wM]) (st1 := [.int (nI (List.length as1)), .int (nI i)]) rfl rfl ?_
      refine g_eqi (nI (List.length (nM P))) (by rw [hln3]) ?_
      refine g_icmp_ge hX (pc := 14) (tgt := 54) dX2_greatest_14 rfl (fun c7 => ?_) (fun c7 => ?_)
      · have d1 : i = (nM P).length := by
          have := (nI_leI (by omega) (by omega)).mp c7
          omega
        subst d1
        refine g_iload_n hX (pc := 54) dX2_greatest_54 2 rfl ?_
        refine g_pk [1, 0, 0] rfl ?_
        refine g_cs (cs1 := [[(n, ob 1 [.ref lm, .ref lb, .ref lr, .int (nLo P), .int (nNow P)])], wm, wM]) rfl ?_
        refine g_iret hX (pc := 55) hR ?_ (by omega) (by omega) dX2_greatest_55
        exact ⟨rfl, rfl⟩
      · have d1 : i < (nM P).length := by
          have := mt (nI_leI (by omega) (by omega)).mpr c7
          omega
        refine g_iload_n hX (pc := 17) dX2_greatest_17 2 rfl ?_
        refine g_iload_n hX (pc := 18) dX2_greatest_18 1 rfl ?_
        refine g_if_eq hX (pc := 19) (tgt := 36) dX2_greatest_19 rfl (fun c8 => ?_) (fun c8 => ?_)
        · exact absurd c8 (by decide)
        · refine g_aload_n hX (pc := 22) dX2_greatest_22 0 rfl ?_
          refine g_iload_n hX (pc := 23) dX2_greatest_23 3 rfl ?_
          obtain ⟨M15, hgM15⟩ := get_ex (l := (nM P)) (i := i) (d1)
          obtain ⟨mas9, m10, hAm11, hml12, hmk13, hMI14⟩ := ML.at hML hgM15
          obtain ⟨rn16, rk17, rl18, rs19, rst20, la21, sp22, lb23, sp224, fn25, fk26, m027, arr28, m129, arr130, h131, h232, h333, h434, h535, h636, h737, hn38⟩ := hMI14.peek
          refine g_callV hX (pc := 24) kX2_at (mt_Net_atP E l n lm lb lr (nLo P) (nNow P) mas9 wm i m10 M15 fz wM hAm11 hMI14 (hmk13)) q198 fcX2 (sp_mem (i := 1) rfl) [1, 0, 0] rfl rfl rfl (Nat.le_of_ble_eq_true rfl) (Nat.le_of_ble_eq_true rfl) (Nat.le_of_ble_eq_true rfl) (by omega) (by omega) dX2_greatest_24 (fun v w1 hp => ?_)
          obtain ⟨rfl, rfl⟩ := hp
          refine g_nrm (cs1 := [[(n, ob 1 [.ref lm, .ref lb, .ref lr, .int (nLo P), .int (nNow P)])], wm, wM]) (st1 := [.ref m10, .int (gretT (nM P) i)]) rfl rfl ?_
          refine g_getNm hX (pc := 27) fcX9 (sp_in 2 rfl h131) 3 (by decide) q933 rfl (v := .ref rl18) rfl dX2_greatest_27 ?_
          refine g_getNm hX (pc := 30) fcX10 (sp_in 2 rfl h232) 1 (by decide) q844 rfl (v := .int (lT (mL M15))) rfl dX2_greatest_30 ?_
          refine g_goto hX (pc := 33) (tgt := 44) dX2_greatest_33 rfl ?_
          refine g_mmax hX (pc := 44) q241 (Nat.le_of_ble_eq_true rfl) (Nat.le_of_ble_eq_true rfl) (by omega) (by omega) q_m1max q_m2 q_m3max dX2_greatest_44 ?_
          refine g_eqi (gretT (nM P) (i + 1)) (gretT_s hgM15) ?_
          refine g_istore_n hX (pc := 47) (lv1 := [(2, .int (gretT (nM P) (i + 1))), (0, .ref n), (1, .int 1), (3, .int (nI i))]) dX2_greatest_47 (by decide) rfl ?_
          refine g_iinc hX (pc := 48) (v := nI (i + 1)) (lv1 := [(3, .int (nI (i + 1))), (2, .int (gretT (nM P) (i + 1))), (0, .ref n), (1, .int 1)]) dX2_greatest_48 3 rfl (nI_1 _) (by decide) rfl ?_
          refine g_goto hX (pc := 51) (tgt := 4) dX2_greatest_51 rfl ?_
          refine g_lv (lv1 := [(0, .ref n), (1, .int 1), (2, .int (gretT (nM P) (i + 1))), (3, .int (nI (i + 1)))]) [2, 3, 1, 0] rfl ?_
          refine g_widen (kc1 := 0) (ks1 := 0) (by omega) (by omega) ?_
          exact ih1 (i + 1) (by omega) (by omega)
  refine g_lv (lv1 := [(0, .ref n), (1, .int 1), (2, .int (gretT (nM P) 0)), (3, .int (nI 0))]) [2, 3, 1, 0] rfl ?_
  refine g_widen (kc1 := 0) (ks1 := 0) (by omega) (by omega) ?_
  exact lp4 ((List.length (nM P) - 0) + 1) 0 (Nat.lt_succ_self _) (Nat.zero_le _)

set_option maxHeartbeats 4000000 in
theorem mt_Net_gretS (E : EE) (l : Launch) (n : Nat) (lm : Nat) (lb : Nat) (lr : Nat) (P : PN) (wm : va_W) (wM : va_W) (fz : va_W) (b : Nat) (hML : ML E fz lm (nM P) wm wM) (h5 : ((nM P).length ≤ 5)) (hsb : (∀ (k : Nat) (M : PM), (nM P)[k]? = some M → mSu M ≤ b)) (hb : (b ≤ 1000)) : Mt E l yX2_greatest cX2_greatest 4 (some .int) 5 0 0 86 [.ref n, .int 0] [[(n, ob 1 [.ref lm, .ref lb, .ref lr, .int (nLo P), .int (nNow P)])], wm, wM] (fun (v_ : Option Value) (cs_ : List va_W) => v_ = some (.int (nI (gretS (nM P) (List.length (nM P))))) ∧ cs_ = [[(n, ob 1 [.ref lm, .ref lb, .ref lr, .int (nLo P), .int (nNow P)])], wm, wM]) := by
  refine Mt.of (by decide) (Nat.le_of_ble_eq_true rfl) (fun X hX hR hin => ?_)
  refine g_lv1 (lv1 := [(0, .ref n), (1, .int 0)]) rfl ?_
  obtain ⟨as1, hal2, hln3⟩ := ML.al hML
  refine g_iconst hX (pc := 0) (v := 0) dX2_greatest_0 (by decide) ?_
  refine g_eqi (nI (gretS (nM P) 0)) (rfl) ?_
  refine g_istore_n hX (pc := 1) (lv1 := [(2, .int (nI (gretS (nM P) 0))), (0, .ref n), (1, .int 0)]) dX2_greatest_1 (by decide) rfl ?_
  refine g_iconst hX (pc := 2) (v := 0) dX2_greatest_2 (by decide) ?_
  refine g_eqi (nI 0) (nI_0.symm) ?_
  refine g_istore_n hX (pc := 3) (lv1 := [(3, .int (nI 0)), (2, .int (nI (gretS (nM P) 0))), (0, .ref n), (1, .int 0)]) dX2_greatest_3 (by decide) rfl ?_
  have lp4 : ∀ (F1 : Nat) (i : Nat), List.length (nM P) - i < F1 → (i ≤ (nM P).length) → G E l X [[(n, ob 1 [.ref lm, .ref lb, .ref lr, .int (nLo P), .int (nNow P)])], wm, wM] 0 0 4 [(0, .ref n), (1, .int 0), (2, .int (nI (gretS (nM P) i))), (3, .int (nI i))] [] := by
    intro F1
    induction F1 with
    | zero =>
      intro i hF hi
      exact absurd hF (Nat.not_lt_zero _)
    | succ F1 ih1 =>
      intro i hF hi
      refine g_iload_n hX (pc := 4) dX2_greatest_4 3 rfl ?_
      refine g_aload_n hX (pc := 5) dX2_greatest_5 0 rfl ?_
      refine g_get hX (pc := 6) fcX2 0 rfl 0 (by decide) q155 rfl (v := .ref lm) rfl dX2_greatest_6 ?_
      obtain ⟨fs5, hm6⟩ := AL.head hal2
      refine g_callF hX (pc := 9) kfJ2_size (mt_AL_size E l lm as1 wm hal2) q189 fcJ2 (sp_in 1 rfl hm6) [1] rfl rfl rfl (Nat.le_of_ble_eq_true rfl) (Nat.le_of_ble_eq_true rfl) (Nat.le_of_ble_eq_true rfl) (by omega) (by omega) dX2_greatest_9 (fun v w1 hp => ?_)
      obtain ⟨rfl, rfl⟩ := hp
      refine g_nrm (cs1 := [wm, [(n, ob 1 [.ref lm, .ref lb, .ref lr, .int (nLo P), .int (nNow P)])], wM]) (st1 := [.int (nI (List.length as1)), .int (nI i)]) rfl rfl ?_
      refine g_eqi (nI (List.length (nM P))) (by rw [hln3]) ?_
      refine g_icmp_ge hX (pc := 14) (tgt := 54) dX2_greatest_14 rfl (fun c7 => ?_) (fun c7 => ?_)
      · have d1 : i = (nM P).length := by
          have := (nI_leI (by omega) (by omega)).mp c7
          omega
        subst d1
        refine g_iload_n hX (pc := 54) dX2_greatest_54 2 rfl ?_
        refine g_pk [1, 0, 0] rfl ?_
        refine g_cs (cs1 := [[(n, ob 1 [.ref lm, .ref lb, .ref lr, .int (nLo P), .int (nNow P)])], wm, wM]) rfl ?_
        refine g_iret hX (pc := 55) hR ?_ (by omega) (by omega) dX2_greatest_55
        exact ⟨rfl, rfl⟩
      · have d1 : i < (nM P).length := by
          have := mt (nI_leI (by omega) (by omega)).mpr c7
          omega
        refine g_iload_n hX (pc := 17) dX2_greatest_17 2 rfl ?_
        refine g_iload_n hX (pc := 18) dX2_greatest_18 1 rfl ?_
        refine g_if_eq hX (pc := 19) (tgt := 36) dX2_greatest_19 rfl (fun c8 => ?_) (fun c8 => ?_)
        · refine g_aload_n hX (pc := 36) dX2_greatest_36 0 rfl ?_
          refine g_iload_n hX (pc := 37) dX2_greatest_37 3 rfl ?_
          obtain ⟨M15, hgM15⟩ := get_ex (l := (nM P)) (i := i) (d1)
          obtain ⟨mas9, m10, hAm11, hml12, hmk13, hMI14⟩ := ML.at hML hgM15
          obtain ⟨rn16, rk17, rl18, rs19, rst20, la21, sp22, lb23, sp224, fn25, fk26, m027, arr28, m129, arr130, h131, h232, h333, h434, h535, h636, h737, hn38⟩ := hMI14.peek
          refine g_callV hX (pc := 38) kX2_at (mt_Net_atP E l n lm lb lr (nLo P) (nNow P) mas9 wm i m10 M15 fz wM hAm11 hMI14 (hmk13)) q198 fcX2 (sp_mem (i := 1) rfl) [1, 0, 0] rfl rfl rfl (Nat.le_of_ble_eq_true rfl) (Nat.le_of_ble_eq_true rfl) (Nat.le_of_ble_eq_true rfl) (by omega) (by omega) dX2_greatest_38 (fun v w1 hp => ?_)
          obtain ⟨rfl, rfl⟩ := hp
          refine g_nrm (cs1 := [[(n, ob 1 [.ref lm, .ref lb, .ref lr, .int (nLo P), .int (nNow P)])], wm, wM]) (st1 := [.ref m10, .int (nI (gretS (nM P) i))]) rfl rfl ?_
          refine g_getNm hX (pc := 41) fcX9 (sp_in 2 rfl h131) 8 (by decide) q945 rfl (v := .int (nI (mSu M15))) rfl dX2_greatest_41 ?_
          refine g_mmax hX (pc := 44) q241 (Nat.le_of_ble_eq_true rfl) (Nat.le_of_ble_eq_true rfl) (by omega) (by omega) q_m1max q_m2 q_m3max dX2_greatest_44 ?_
          refine g_eqi (nI (gretS (nM P) (i + 1))) (gretS_s hgM15 (by have := gretS_le hsb i (by omega); omega) (by have := hsb i _ hgM15; omega)) ?_
          refine g_istore_n hX (pc := 47) (lv1 := [(2, .int (nI (gretS (nM P) (i + 1)))), (0, .ref n), (1, .int 0), (3, .int (nI i))]) dX2_greatest_47 (by decide) rfl ?_
          refine g_iinc hX (pc := 48) (v := nI (i + 1)) (lv1 := [(3, .int (nI (i + 1))), (2, .int (nI (gretS (nM P) (i + 1)))), (0, .ref n), (1, .int 0)]) dX2_greatest_48 3 rfl (nI_1 _) (by decide) rfl ?_
          refine g_goto hX (pc := 51) (tgt := 4) dX2_greatest_51 rfl ?_
          refine g_lv (lv1 := [(0, .ref n), (1, .int 0), (2, .int (nI (gretS (nM P) (i + 1)))), (3, .int (nI (i + 1)))]) [2, 3, 1, 0] rfl ?_
          refine g_widen (kc1 := 0) (ks1 := 0) (by omega) (by omega) ?_
          exact ih1 (i + 1) (by omega) (by omega)
        · exact absurd c8 (by decide)
  refine g_lv (lv1 := [(0, .ref n), (1, .int 0), (2, .int (nI (gretS (nM P) 0))), (3, .int (nI 0))]) [2, 3, 1, 0] rfl ?_
  refine g_widen (kc1 := 0) (ks1 := 0) (by omega) (by omega) ?_
  exact lp4 ((List.length (nM P) - 0) + 1) 0 (Nat.lt_succ_self _) (Nat.zero_le _)

set_option maxHeartbeats 4000000 in
theorem mt_Net_smallestDone (E : EE) (l : Launch) (n : Nat) (lm : Nat) (lb : Nat) (lr : Nat) (P : PN) (wm : va_W) (wM : va_W) (fz : va_W) (hML : ML E fz lm (nM P) wm wM) (h5 : ((nM P).length ≤ 5)) : Mt E l yX2_smallestDone cX2_smallestDone 3 (some .int) 5 0 0 86 [.ref n] [[(n, ob 1 [.ref lm, .ref lb, .ref lr, .int (nLo P), .int (nNow P)])], wm, wM] (fun (v_ : Option Value) (cs_ : List va_W) => v_ = some (.int (smallD (nM P))) ∧ cs_ = [[(n, ob 1 [.ref lm, .ref lb, .ref lr, .int (nLo P), .int (nNow P)])], wm, wM]) := by
  refine Mt.of (by decide) (Nat.le_of_ble_eq_true rfl) (fun X hX hR hin => ?_)
  refine g_lv1 (lv1 := [(0, .ref n)]) rfl ?_
  obtain ⟨as1, hal2, hln3⟩ := ML.al hML
  refine g_iconst hX (pc := 0) (v := (-1)) dX2_smallestDone_0 (by decide) ?_
  refine g_eqi (leastD (nM P) 0) (rfl) ?_
  refine g_istore_n hX (pc := 1) (lv1 := [(1, .int (leastD (nM P) 0)), (0, .ref n)]) dX2_smallestDone_1 (by decide) rfl ?_
  refine g_iconst hX (pc := 2) (v := 0) dX2_smallestDone_2 (by decide) ?_
  refine g_eqi (nI 0) (nI_0.symm) ?_
  refine g_istore_n hX (pc := 3) (lv1 := [(2, .int (nI 0)), (1, .int (leastD (nM P) 0)), (0, .ref n)]) dX2_smallestDone_3 (by decide) rfl ?_
  have lp4 : ∀ (F1 : Nat) (i : Nat), List.length (nM P) - i < F1 → (i ≤ (nM P).length) → G E l X [[(n, ob 1 [.ref lm, .ref lb, .ref lr, .int (nLo P), .int (nNow P)])], wm, wM] 0 0 4 [(0, .ref n), (1, .int (leastD (nM P) i)), (2, .int (nI i))] [] := by
    intro F1
    induction F1 with
    | zero =>
      intro i hF hi
      exact absurd hF (Nat.not_lt_zero _)
    | succ F1 ih1 =>
      intro i hF hi
      refine g_iload_n hX (pc := 4) dX2_smallestDone_4 2 rfl ?_
      refine g_aload_n hX (pc := 5) dX2_smallestDone_5 0 rfl ?_
      refine g_get hX (pc := 6) fcX2 0 rfl 0 (by decide) q155 rfl (v := .ref lm) rfl dX2_smallestDone_6 ?_
      obtain ⟨fs5, hm6⟩ := AL.head hal2
      refine g_callF hX (pc := 9) kfJ2_size (mt_AL_size E l lm as1 wm hal2) q189 fcJ2 (sp_in 1 rfl hm6) [1] rfl rfl rfl (Nat.le_of_ble_eq_true rfl) (Nat.le_of_ble_eq_true rfl) (Nat.le_of_ble_eq_true rfl) (by omega) (by omega) dX2_smallestDone_9 (fun v w1 hp => ?_)
      obtain ⟨rfl, rfl⟩ := hp
      refine g_nrm (cs1 := [wm, [(n, ob 1 [.ref lm, .ref lb, .ref lr, .int (nLo P), .int (nNow P)])], wM]) (st1 := [.int (nI (List.length as1)), .int (nI i)]) rfl rfl ?_
      refine g_eqi (nI (List.length (nM P))) (by rw [hln3]) ?_
      refine g_icmp_ge hX (pc := 14) (tgt := 60) dX2_smallestDone_14 rfl (fun c7 => ?_) (fun c7 => ?_)
      · have d1 : i = (nM P).length := by
          have := (nI_leI (by omega) (by omega)).mp c7
          omega
        subst d1
        refine g_iconst hX (pc := 60) (v := 0) dX2_smallestDone_60 (by decide) ?_
        refine g_iload_n hX (pc := 61) dX2_smallestDone_61 1 rfl ?_
        refine g_mmax hX (pc := 62) q241 (Nat.le_of_ble_eq_true rfl) (Nat.le_of_ble_eq_true rfl) (by omega) (by omega) q_m1max q_m2 q_m3max dX2_smallestDone_62 ?_
        refine g_pk [1, 0, 0] rfl ?_
        refine g_cs (cs1 := [[(n, ob 1 [.ref lm, .ref lb, .ref lr, .int (nLo P), .int (nNow P)])], wm, wM]) rfl ?_
        refine g_iret hX (pc := 65) hR ?_ (by omega) (by omega) dX2_smallestDone_65
        exact ⟨rfl, rfl⟩
      · have d1 : i < (nM P).length := by
          have := mt (nI_leI (by omega) (by omega)).mpr c7
          omega
        refine g_aload_n hX (pc := 17) dX2_smallestDone_17 0 rfl ?_
        refine g_iload_n hX (pc := 18) dX2_smallestDone_18 2 rfl ?_
        obtain ⟨M14, hgM14⟩ := get_ex (l := (nM P)) (i := i) (d1)
        obtain ⟨mas8, m9, hAm10, hml11, hmk12, hMI13⟩ := ML.at hML hgM14
        obtain ⟨rn15, rk16, rl17, rs18, rst19, la20, sp21, lb22, sp223, fn24, fk25, m026, arr27, m128, arr129, h130, h231, h332, h433, h534, h635, h736, hn37⟩ := hMI13.peek
        refine g_callV hX (pc := 19) kX2_at (mt_Net_atP E l n lm lb lr (nLo P) (nNow P) mas8 wm i m9 M14 fz wM hAm10 hMI13 (hmk12)) q198 fcX2 (sp_mem (i := 1) rfl) [1, 0, 0] rfl rfl rfl (Nat.le_of_ble_eq_true rfl) (Nat.le_of_ble_eq_true rfl) (Nat.le_of_ble_eq_true rfl) (by omega) (by omega) dX2_smallestDone_19 (fun v w1 hp => ?_)
        obtain ⟨rfl, rfl⟩ := hp
        refine g_nrm (cs1 := [[(n, ob 1 [.ref lm, .ref lb, .ref lr, .int (nLo P), .int (nNow P)])], wm, wM]) (st1 := [.ref m9]) rfl rfl ?_
        refine g_callV hX (pc := 22) kX9_isUp (mt_Machine_isUpI E l m9 M14 fz wM hMI13) q244 fcX9 (sp_in 2 rfl h130) [2] rfl rfl rfl (Nat.le_of_ble_eq_true rfl) (Nat.le_of_ble_eq_true rfl) (Nat.le_of_ble_eq_true rfl) (by omega) (by omega) dX2_smallestDone_22 (fun v w1 hp => ?_)
        obtain ⟨rfl, rfl⟩ := hp
        refine g_nrm (cs1 := [wM, [(n, ob 1 [.ref lm, .ref lb, .ref lr, .int (nLo P), .int (nNow P)])], wm]) (st1 := [.int (if mR M14 = 0 then 0 else 1)]) rfl rfl ?_
        refine g_if_eq hX (pc := 25) (tgt := 54) dX2_smallestDone_25 rfl (fun c38_ => ?_) (fun c38_ => ?_)
        · have c38 := z01.mp c38_
          have ht39 : leastD (nM P) (i + 1) = leastD (nM P) i := ls_n hgM14 (fun z => z.1 c38)
          refine g_lv1 (lv1 := [(0, .ref n), (1, .int (leastD (nM P) (i + 1))), (2, .int (nI i))]) (by rw [ht39]) ?_
          refine g_iinc hX (pc := 54) (v := nI (i + 1)) (lv1 := [(2, .int (nI (i + 1))), (0, .ref n), (1, .int (leastD (nM P) (i + 1)))]) dX2_smallestDone_54 2 rfl (nI_1 _) (by decide) rfl ?_
          refine g_goto hX (pc := 57) (tgt := 4) dX2_smallestDone_57 rfl ?_
          refine g_pk [1, 1, 0] rfl ?_
          refine g_cs (cs1 := [[(n, ob 1 [.ref lm, .ref lb, .ref lr, .int (nLo P), .int (nNow P)])], wm, wM]) rfl ?_
          refine g_lv (lv1 := [(0, .ref n), (1, .int (leastD (nM P) (i + 1))), (2, .int (nI (i + 1)))]) [1, 2, 0] rfl ?_
          refine g_widen (kc1 := 0) (ks1 := 0) (by omega) (by omega) ?_
          exact ih1 (i + 1) (by omega) (by omega)
        · have c38 := z01n.mp c38_
          refine g_iload_n hX (pc := 28) dX2_smallestDone_28 1 rfl ?_
          refine g_iconst hX (pc := 29) (v := (-1)) dX2_smallestDone_29 (by decide) ?_
          refine g_icmp_eq hX (pc := 30) (tgt := 45) dX2_smallestDone_30 rfl (fun c40 => ?_) (fun c40 => ?_)
          · refine g_aload_n hX (pc := 45) dX2_smallestDone_45 0 rfl ?_
            refine g_iload_n hX (pc := 46) dX2_smallestDone_46 2 rfl ?_
            refine g_callV hX (pc := 47) kX2_at (mt_Net_atP E l n lm lb lr (nLo P) (nNow P) mas8 wm i m9 M14 fz wM hAm10 hMI13 (hmk12)) q198 fcX2 (sp_mem (i := 1) rfl) [1, 1, 0] rfl rfl rfl (Nat.le_of_ble_eq_true rfl) (Nat.le_of_ble_eq_true rfl) (Nat.le_of_ble_eq_true rfl) (by omega) (by omega) dX2_smallestDone_47 (fun v w1 hp => ?_)
            obtain ⟨rfl, rfl⟩ := hp
            refine g_nrm (cs1 := [[(n, ob 1 [.ref lm, .ref lb, .ref lr, .int (nLo P), .int (nNow P)])], wm, wM]) (st1 := [.ref m9]) rfl rfl ?_
            refine g_getNm hX (pc := 50) fcX9 (sp_in 2 rfl h130) 9 (by decide) q947 rfl (v := .int (nI (mDn M14))) rfl dX2_smallestDone_50 ?_
            refine g_eqi (leastD (nM P) (i + 1)) ((ls_y hgM14 ⟨c38, Or.inl c40⟩).symm) ?_
            refine g_istore_n hX (pc := 53) (lv1 := [(1, .int (leastD (nM P) (i + 1))), (0, .ref n), (2, .int (nI i))]) dX2_smallestDone_53 (by decide) rfl ?_
            refine g_iinc hX (pc := 54) (v := nI (i + 1)) (lv1 := [(2, .int (nI (i + 1))), (1, .int (leastD (nM P) (i + 1))), (0, .ref n)]) dX2_smallestDone_54 2 rfl (nI_1 _) (by decide) rfl ?_
            refine g_goto hX (pc := 57) (tgt := 4) dX2_smallestDone_57 rfl ?_
            refine g_lv (lv1 := [(0, .ref n), (1, .int (leastD (nM P) (i + 1))), (2, .int (nI (i + 1)))]) [2, 1, 0] rfl ?_
            refine g_widen (kc1 := 0) (ks1 := 0) (by omega) (by omega) ?_
            exact ih1 (i + 1) (by omega) (by omega)
          · refine g_aload_n hX (pc := 33) dX2_smallestDone_33 0 rfl ?_
            refine g_iload_n hX (pc := 34) dX2_smallestDone_34 2 rfl ?_
            refine g_callV hX (pc := 35) kX2_at (mt_Net_atP E l n lm lb lr (nLo P) (nNow P) mas8 wm i m9 M14 fz wM hAm10 hMI13 (hmk12)) q198 fcX2 (sp_mem (i := 1) rfl) [1, 1, 0] rfl rfl rfl (Nat.le_of_ble_eq_true rfl) (Nat.le_of_ble_eq_true rfl) (Nat.le_of_ble_eq_true rfl) (by omega) (by omega) dX2_smallestDone_35 (fun v w1 hp => ?_)
            obtain ⟨rfl, rfl⟩ := hp
            refine g_nrm (cs1 := [[(n, ob 1 [.ref lm, .ref lb, .ref lr, .int (nLo P), .int (nNow P)])], wm, wM]) (st1 := [.ref m9]) rfl rfl ?_
            refine g_getNm hX (pc := 38) fcX9 (sp_in 2 rfl h130) 9 (by decide) q947 rfl (v := .int (nI (mDn M14))) rfl dX2_smallestDone_38 ?_
            refine g_iload_n hX (pc := 41) dX2_smallestDone_41 1 rfl ?_
            refine g_icmp_ge hX (pc := 42) (tgt := 54) dX2_smallestDone_42 rfl (fun c41 => ?_) (fun c41 => ?_)
            · have ht42 : leastD (nM P) (i + 1) = leastD (nM P) i := ls_n hgM14 (fun z => z.2.elim c40 (fun y => absurd y (Int32.not_lt.mpr c41)))
              refine g_lv1 (lv1 := [(0, .ref n), (1, .int (leastD (nM P) (i + 1))), (2, .int (nI i))]) (by rw [ht42]) ?_
              refine g_iinc hX (pc := 54) (v := nI (i + 1)) (lv1 := [(2, .int (nI (i + 1))), (0, .ref n), (1, .int (leastD (nM P) (i + 1)))]) dX2_smallestDone_54 2 rfl (nI_1 _) (by decide) rfl ?_
              refine g_goto hX (pc := 57) (tgt := 4) dX2_smallestDone_57 rfl ?_
              refine g_lv (lv1 := [(0, .ref n), (1, .int (leastD (nM P) (i + 1))), (2, .int (nI (i + 1)))]) [1, 2, 0] rfl ?_
              refine g_widen (kc1 := 0) (ks1 := 0) (by omega) (by omega) ?_
              exact ih1 (i + 1) (by omega) (by omega)
            · refine g_aload_n hX (pc := 45) dX2_smallestDone_45 0 rfl ?_
              refine g_iload_n hX (pc := 46) dX2_smallestDone_46 2 rfl ?_
              refine g_callV hX (pc := 47) kX2_at (mt_Net_atP E l n lm lb lr (nLo P) (nNow P) mas8 wm i m9 M14 fz wM hAm10 hMI13 (hmk12)) q198 fcX2 (sp_mem (i := 0) rfl) [0, 0, 0] rfl rfl rfl (Nat.le_of_ble_eq_true rfl) (Nat.le_of_ble_eq_true rfl) (Nat.le_of_ble_eq_true rfl) (by omega) (by omega) dX2_smallestDone_47 (fun v w1 hp => ?_)
              obtain ⟨rfl, rfl⟩ := hp
              refine g_nrm (cs1 := [[(n, ob 1 [.ref lm, .ref lb, .ref lr, .int (nLo P), .int (nNow P)])], wm, wM]) (st1 := [.ref m9]) rfl rfl ?_
              refine g_getNm hX (pc := 50) fcX9 (sp_in 2 rfl h130) 9 (by decide) q947 rfl (v := .int (nI (mDn M14))) rfl dX2_smallestDone_50 ?_
              refine g_eqi (leastD (nM P) (i + 1)) ((ls_y hgM14 ⟨c38, Or.inr (Int32.not_le.mp c41)⟩).symm) ?_
              refine g_istore_n hX (pc := 53) (lv1 := [(1, .int (leastD (nM P) (i + 1))), (0, .ref n), (2, .int (nI i))]) dX2_smallestDone_53 (by decide) rfl ?_
              refine g_iinc hX (pc := 54) (v := nI (i + 1)) (lv1 := [(2, .int (nI (i + 1))), (1, .int (leastD (nM P) (i + 1))), (0, .ref n)]) dX2_smallestDone_54 2 rfl (nI_1 _) (by decide) rfl ?_
              refine g_goto hX (pc := 57) (tgt := 4) dX2_smallestDone_57 rfl ?_
              refine g_lv (lv1 := [(0, .ref n), (1, .int (leastD (nM P) (i + 1))), (2, .int (nI (i + 1)))]) [2, 1, 0] rfl ?_
              refine g_widen (kc1 := 0) (ks1 := 0) (by omega) (by omega) ?_
              exact ih1 (i + 1) (by omega) (by omega)
  refine g_lv (lv1 := [(0, .ref n), (1, .int (leastD (nM P) 0)), (2, .int (nI 0))]) [2, 1, 0] rfl ?_
  refine g_widen (kc1 := 0) (ks1 := 0) (by omega) (by omega) ?_
  exact lp4 ((List.length (nM P) - 0) + 1) 0 (Nat.lt_succ_self _) (Nat.zero_le _)

set_option maxHeartbeats 4000000 in
theorem mt_Request_isAnsweredM (E : EE) (l : Launch) (a : Nat) (r : PR) (w : va_W) (hm : ((a, rqC E r) ∈ w)) : Mt E l yX12_isAnswered cX12_isAnswered 1 (some .boolean) 1 0 0 1 [.ref a] [w] (fun (v_ : Option Value) (cs_ : List va_W) => v_ = some (.int (if rAns r = (-1) then 0 else 1)) ∧ cs_ = [w]) := by
  refine Mt.of (by decide) (Nat.le_of_ble_eq_true rfl) (fun X hX hR hin => ?_)
  refine g_lv1 (lv1 := [(0, .ref a)]) rfl ?_
  refine g_aload_n hX (pc := 0) dX12_isAnswered_0 0 rfl ?_
  refine g_getm hX (pc := 1) fcX12 (sp_in 0 rfl hm) 7 (by decide) q1011 rfl (v := .int (rAns r)) rfl dX12_isAnswered_1 ?_
  refine g_iconst hX (pc := 4) (v := (-1)) dX12_isAnswered_4 (by decide) ?_
  refine g_val (v := if (rAns r) = (-1) then 0 else 1) (pcJ := 13) (st1 := []) (fun hj1 => ?_) ?_
  · refine g_icmp_eq hX (pc := 5) (tgt := 12) dX12_isAnswered_5 rfl (fun c2 => ?_) (fun c2 => ?_)
    · refine g_iconst hX (pc := 12) (v := 0) dX12_isAnswered_12 (by decide) ?_
      exact hj1 _ (by rw [if_pos c2])
    · refine g_iconst hX (pc := 8) (v := 1) dX12_isAnswered_8 (by decide) ?_
      refine g_goto hX (pc := 9) (tgt := 13) dX12_isAnswered_9 rfl ?_
      exact hj1 _ (by rw [if_neg c2])
  refine g_zret hX (pc := 13) hR (nz01 _) ?_ (Nat.le_of_ble_eq_true rfl) (Nat.le_of_ble_eq_true rfl) dX12_isAnswered_13
  exact ⟨rfl, rfl⟩

set_option maxHeartbeats 4000000 in
theorem mt_Net_countAnswered (E : EE) (l : Launch) (n : Nat) (lm : Nat) (lb : Nat) (lr : Nat) (P : PN) (wr : va_W) (wq : va_W) (hRq : RL E lr (nR P) wr wq) (h40 : ((nR P).length ≤ 40)) : Mt E l yX2_countAnswered cX2_countAnswered 3 (some .int) 4 0 0 65 [.ref n] [[(n, ob 1 [.ref lm, .ref lb, .ref lr, .int (nLo P), .int (nNow P)])], wr, wq] (fun (v_ : Option Value) (cs_ : List va_W) => v_ = some (.int (nI (cntAn (nR P) (List.length (nR P))))) ∧ cs_ = [[(n, ob 1 [.ref lm, .ref lb, .ref lr, .int (nLo P), .int (nNow P)])], wr, wq]) := by
  refine Mt.of (by decide) (Nat.le_of_ble_eq_true rfl) (fun X hX hR hin => ?_)
  refine g_lv1 (lv1 := [(0, .ref n)]) rfl ?_
  obtain ⟨as1, hal2, hln3⟩ := RL.al hRq
  refine g_iconst hX (pc := 0) (v := 0) dX2_countAnswered_0 (by decide) ?_
  refine g_eqi (nI (cntAn (nR P) 0)) (rfl) ?_
  refine g_istore_n hX (pc := 1) (lv1 := [(1, .int (nI (cntAn (nR P) 0))), (0, .ref n)]) dX2_countAnswered_1 (by decide) rfl ?_
  refine g_iconst hX (pc := 2) (v := 0) dX2_countAnswered_2 (by decide) ?_
  refine g_eqi (nI 0) (nI_0.symm) ?_
  refine g_istore_n hX (pc := 3) (lv1 := [(2, .int (nI 0)), (1, .int (nI (cntAn (nR P) 0))), (0, .ref n)]) dX2_countAnswered_3 (by decide) rfl ?_
  have lp4 : ∀ (F1 : Nat) (i : Nat), List.length (nR P) - i < F1 → (i ≤ (nR P).length) → G E l X [[(n, ob 1 [.ref lm, .ref lb, .ref lr, .int (nLo P), .int (nNow P)])], wr, wq] 0 0 4 [(0, .ref n), (1, .int (nI (cntAn (nR P) i))), (2, .int (nI i))] [] := by
    intro F1
    induction F1 with
    | zero =>
      intro i hF hi
      exact absurd hF (Nat.not_lt_zero _)
    | succ F1 ih1 =>
      intro i hF hi
      refine g_iload_n hX (pc := 4) dX2_countAnswered_4 2 rfl ?_
      refine g_aload_n hX (pc := 5) dX2_countAnswered_5 0 rfl ?_
      refine g_get hX (pc := 6) fcX2 0 rfl 2 (by decide) q159 rfl (v := .ref lr) rfl dX2_countAnswered_6 ?_
      obtain ⟨fs5, hm6⟩ := AL.head hal2
      refine g_callF hX (pc := 9) kfJ2_size (mt_AL_size E l lr as1 wr hal2) q189 fcJ2 (sp_in 1 rfl hm6) [1] rfl rfl rfl (Nat.le_of_ble_eq_true rfl) (Nat.le_of_ble_eq_true rfl) (Nat.le_of_ble_eq_true rfl) (by omega) (by omega) dX2_countAnswered_9 (fun v w1 hp => ?_)
      obtain ⟨rfl, rfl⟩ := hp
      refine g_nrm (cs1 := [wr, [(n, ob 1 [.ref lm, .ref lb, .ref lr, .int (nLo P), .int (nNow P)])], wq]) (st1 := [.int (nI (List.length as1)), .int (nI i)]) rfl rfl ?_
      refine g_eqi (nI (List.length (nR P))) (by rw [hln3]) ?_
      refine g_icmp_ge hX (pc := 14) (tgt := 50) dX2_countAnswered_14 rfl (fun c7 => ?_) (fun c7 => ?_)
      · have d1 : i = (nR P).length := by
          have := (nI_leI (by omega) (by omega)).mp c7
          omega
        subst d1
        refine g_iload_n hX (pc := 50) dX2_countAnswered_50 1 rfl ?_
        refine g_pk [1, 0, 0] rfl ?_
        refine g_cs (cs1 := [[(n, ob 1 [.ref lm, .ref lb, .ref lr, .int (nLo P), .int (nNow P)])], wr, wq]) rfl ?_
        refine g_iret hX (pc := 51) hR ?_ (by omega) (by omega) dX2_countAnswered_51
        exact ⟨rfl, rfl⟩
      · have d1 : i < (nR P).length := by
          have := mt (nI_leI (by omega) (by omega)).mpr c7
          omega
        refine g_iload_n hX (pc := 17) dX2_countAnswered_17 1 rfl ?_
        refine g_aload_n hX (pc := 18) dX2_countAnswered_18 0 rfl ?_
        refine g_get hX (pc := 19) fcX2 1 rfl 2 (by decide) q159 rfl (v := .ref lr) rfl dX2_countAnswered_19 ?_
        refine g_iload_n hX (pc := 22) dX2_countAnswered_22 2 rfl ?_
        obtain ⟨r14, hgr14⟩ := get_ex (l := (nR P)) (i := i) (d1)
        obtain ⟨ras8, a9, hAr10, hrl11, hra12, hrm13⟩ := RL.at hRq hgr14
        refine g_callF hX (pc := 23) kfJ2_get (mt_AL_get E l lr ras8 wr i a9 hAr10 (hra12)) q203 fcJ2 (sp_in 0 rfl hm6) [0] rfl rfl rfl (Nat.le_of_ble_eq_true rfl) (Nat.le_of_ble_eq_true rfl) (Nat.le_of_ble_eq_true rfl) (by omega) (by omega) dX2_countAnswered_23 (fun v w1 hp => ?_)
        obtain ⟨rfl, rfl⟩ := hp
        refine g_nrm (cs1 := [wr, [(n, ob 1 [.ref lm, .ref lb, .ref lr, .int (nLo P), .int (nNow P)])], wq]) (st1 := [.ref a9, .int (nI (cntAn (nR P) i))]) rfl rfl ?_
        refine g_cast hX (pc := 28) fcX12 (sp_in 2 rfl hrm13) q726 dX2_countAnswered_28 ?_
        refine g_callV hX (pc := 31) kX12_isAnswered (mt_Request_isAnsweredM E l a9 r14 wq (hrm13)) q732 fcX12 (sp_in 2 rfl hrm13) [2] rfl rfl rfl (Nat.le_of_ble_eq_true rfl) (Nat.le_of_ble_eq_true rfl) (Nat.le_of_ble_eq_true rfl) (by omega) (by omega) dX2_countAnswered_31 (fun v w1 hp => ?_)
        obtain ⟨rfl, rfl⟩ := hp
        refine g_nrm (cs1 := [wq, wr, [(n, ob 1 [.ref lm, .ref lb, .ref lr, .int (nLo P), .int (nNow P)])]]) (st1 := [.int (if rAns r14 = (-1) then 0 else 1), .int (nI (cntAn (nR P) i))]) rfl rfl ?_
        refine g_val (v := if rAns r14 = (-1) then 0 else 1) (pcJ := 42) (st1 := [.int (nI (cntAn (nR P) i))]) (fun hj15 => ?_) ?_
        · refine g_if_eq hX (pc := 34) (tgt := 41) dX2_countAnswered_34 rfl (fun c16_ => ?_) (fun c16_ => ?_)
          · have c16 := z01.mp c16_
            refine g_iconst hX (pc := 41) (v := 0) dX2_countAnswered_41 (by decide) ?_
            exact hj15 _ (by rw [if_pos c16])
          · have c16 := z01n.mp c16_
            refine g_iconst hX (pc := 37) (v := 1) dX2_countAnswered_37 (by decide) ?_
            refine g_goto hX (pc := 38) (tgt := 42) dX2_countAnswered_38 rfl ?_
            exact hj15 _ (by rw [if_neg c16])
        refine g_iadd hX (pc := 42) dX2_countAnswered_42 ?_
        refine g_eqi (nI (cntAn (nR P) (i + 1))) (cntAn_s hgr14) ?_
        refine g_istore_n hX (pc := 43) (lv1 := [(1, .int (nI (cntAn (nR P) (i + 1)))), (0, .ref n), (2, .int (nI i))]) dX2_countAnswered_43 (by decide) rfl ?_
        refine g_iinc hX (pc := 44) (v := nI (i + 1)) (lv1 := [(2, .int (nI (i + 1))), (1, .int (nI (cntAn (nR P) (i + 1)))), (0, .ref n)]) dX2_countAnswered_44 2 rfl (nI_1 _) (by decide) rfl ?_
        refine g_goto hX (pc := 47) (tgt := 4) dX2_countAnswered_47 rfl ?_
        refine g_pk [2, 1, 0] rfl ?_
        refine g_cs (cs1 := [[(n, ob 1 [.ref lm, .ref lb, .ref lr, .int (nLo P), .int (nNow P)])], wr, wq]) rfl ?_
        refine g_lv (lv1 := [(0, .ref n), (1, .int (nI (cntAn (nR P) (i + 1)))), (2, .int (nI (i + 1)))]) [2, 1, 0] rfl ?_
        refine g_widen (kc1 := 0) (ks1 := 0) (by omega) (by omega) ?_
        exact ih1 (i + 1) (by omega) (by omega)
  refine g_lv (lv1 := [(0, .ref n), (1, .int (nI (cntAn (nR P) 0))), (2, .int (nI 0))]) [2, 1, 0] rfl ?_
  refine g_widen (kc1 := 0) (ks1 := 0) (by omega) (by omega) ?_
  exact lp4 ((List.length (nR P) - 0) + 1) 0 (Nat.lt_succ_self _) (Nat.zero_le _)

set_option maxHeartbeats 4000000 in
theorem mt_Net_many (E : EE) (l : Launch) (n : Nat) (lm : Nat) (lb : Nat) (lr : Nat) (P : PN) (wm : va_W) (wM : va_W) (wb : va_W) (wr : va_W) (wq : va_W) (fz : va_W) (wh : Nat) (b : Nat) (hML : ML E fz lm (nM P) wm wM) (hB : BL E fz lb (nB P) wb) (hRq : RL E lr (nR P) wr wq) (h5 : ((nM P).length ≤ 5)) (h40 : ((nR P).length ≤ 40)) (hsb : (∀ (k : Nat) (M : PM), (nM P)[k]? = some M → mSu M ≤ b)) (hb : (b ≤ 1000)) (hw : (wh < 11)) : Mt E l yX2_many cX2_many 2 (some .int) 6 0 0 109 [.ref n, .int (nI wh)] [[(n, ob 1 [.ref lm, .ref lb, .ref lr, .int (nLo P), .int (nNow P)])], wm, wM, wb, wr, wq] (fun (v_ : Option Value) (cs_ : List va_W) => v_ = some (.int (oMany P wh)) ∧ cs_ = [[(n, ob 1 [.ref lm, .ref lb, .ref lr, .int (nLo P), .int (nNow P)])], wm, wM, wb, wr, wq]) := by
  refine Mt.of (by decide) (Nat.le_of_ble_eq_true rfl) (fun X hX hR hin => ?_)
  refine g_lv1 (lv1 := [(0, .ref n), (1, .int (nI wh))]) rfl ?_
  refine g_iload_n hX (pc := 0) dX2_many_0 1 rfl ?_
  rcases (show wh = 0 ∨ wh = 1 ∨ wh = 2 ∨ wh = 3 ∨ wh = 4 ∨ wh = 5 ∨ wh = 6 ∨ wh = 7 ∨ wh = 8 ∨ wh = 9 ∨ (wh < 0 ∨ 9 < wh) by omega) with h1_0 | h1_1 | h1_2 | h1_3 | h1_4 | h1_5 | h1_6 | h1_7 | h1_8 | h1_9 | h1_d
  · refine g_tableIn hX (pc := 1) (tgt := 56) (off := 55) dX2_many_1 (by rw [h1_0]; decide) (by rw [h1_0]; decide) (by rw [h1_0]; rfl) rfl ?_
    obtain ⟨as1, hal2, hln3⟩ := ML.al hML
    refine g_aload_n hX (pc := 56) dX2_many_56 0 rfl ?_
    refine g_get hX (pc := 57) fcX2 0 rfl 0 (by decide) q155 rfl (v := .ref lm) rfl dX2_many_57 ?_
    obtain ⟨fs4, hm5⟩ := AL.head hal2
    refine g_callF hX (pc := 60) kfJ2_size (mt_AL_size E l lm as1 wm hal2) q189 fcJ2 (sp_in 1 rfl hm5) [1] rfl rfl rfl (Nat.le_of_ble_eq_true rfl) (Nat.le_of_ble_eq_true rfl) (Nat.le_of_ble_eq_true rfl) (by omega) (by omega) dX2_many_60 (fun v w1 hp => ?_)
    obtain ⟨rfl, rfl⟩ := hp
    refine g_nrm (cs1 := [wm, [(n, ob 1 [.ref lm, .ref lb, .ref lr, .int (nLo P), .int (nNow P)])], wM, wb, wr, wq]) (st1 := [.int (nI (List.length as1))]) rfl rfl ?_
    refine g_eqi (nI (List.length (nM P))) (by rw [hln3]) ?_
    refine g_pk [1, 0, 0, 0, 0, 0] rfl ?_
    refine g_cs (cs1 := [[(n, ob 1 [.ref lm, .ref lb, .ref lr, .int (nLo P), .int (nNow P)])], wm, wM, wb, wr, wq]) rfl ?_
    refine g_iret hX (pc := 65) hR ?_ (by omega) (by omega) dX2_many_65
    first | (rw [h1_0]; exact ⟨rfl, rfl⟩) | (rw [h1_3]; exact ⟨rfl, rfl⟩) | (rw [h1_4]; exact ⟨rfl, rfl⟩) | (rw [h1_5]; exact ⟨rfl, rfl⟩) | (rw [h1_6]; exact ⟨rfl, rfl⟩) | (rw [h1_7]; exact ⟨rfl, rfl⟩) | (rw [h1_8]; exact ⟨rfl, rfl⟩) | (rw [h1_9]; exact ⟨rfl, rfl⟩) | (rw [h1_1]; exact ⟨by rw [if_pos (by decide)]; rfl, rfl⟩) | (rw [h1_2]; exact ⟨by rw [if_neg (by decide)]; rfl, rfl⟩) | (rw [show wh = 10 by omega]; exact ⟨rfl, rfl⟩)
  · refine g_tableIn hX (pc := 1) (tgt := 66) (off := 65) dX2_many_1 (by rw [h1_1]; decide) (by rw [h1_1]; decide) (by rw [h1_1]; rfl) rfl ?_
    refine g_aload_n hX (pc := 66) dX2_many_66 0 rfl ?_
    refine g_iload_n hX (pc := 67) dX2_many_67 1 rfl ?_
    refine g_iconst hX (pc := 68) (v := 1) dX2_many_68 (by decide) ?_
    refine g_val (v := if (nI wh) = 1 then 0 else 3) (pcJ := 77) (st1 := [.ref n]) (fun hj6 => ?_) ?_
    · refine g_icmp_ne hX (pc := 69) (tgt := 76) dX2_many_69 rfl (fun c7 => ?_) (fun c7 => ?_)
      · refine g_iconst hX (pc := 76) (v := 3) dX2_many_76 (by decide) ?_
        exact hj6 _ (by rw [if_neg c7])
      · refine g_iconst hX (pc := 72) (v := 0) dX2_many_72 (by decide) ?_
        refine g_goto hX (pc := 73) (tgt := 77) dX2_many_73 rfl ?_
        exact hj6 _ (by rw [if_pos c7])
    refine g_callV hX (pc := 77) kX2_countOf (mt_Net_countOf E l n lm lb lr P wm wM fz (if (nI wh) = 1 then 0 else 3) hML (h5)) q752 fcX2 (sp_mem (i := 0) rfl) [0, 0, 0] rfl rfl rfl (Nat.le_of_ble_eq_true rfl) (Nat.le_of_ble_eq_true rfl) (Nat.le_of_ble_eq_true rfl) (by omega) (by omega) dX2_many_77 (fun v w1 hp => ?_)
    obtain ⟨rfl, rfl⟩ := hp
    refine g_nrm (cs1 := [[(n, ob 1 [.ref lm, .ref lb, .ref lr, .int (nLo P), .int (nNow P)])], wm, wM, wb, wr, wq]) (st1 := [.int (nI (cntOf (nM P) (if (nI wh) = 1 then 0 else 3) (List.length (nM P))))]) rfl rfl ?_
    refine g_iret hX (pc := 80) hR ?_ (by omega) (by omega) dX2_many_80
    first | (rw [h1_0]; exact ⟨rfl, rfl⟩) | (rw [h1_3]; exact ⟨rfl, rfl⟩) | (rw [h1_4]; exact ⟨rfl, rfl⟩) | (rw [h1_5]; exact ⟨rfl, rfl⟩) | (rw [h1_6]; exact ⟨rfl, rfl⟩) | (rw [h1_7]; exact ⟨rfl, rfl⟩) | (rw [h1_8]; exact ⟨rfl, rfl⟩) | (rw [h1_9]; exact ⟨rfl, rfl⟩) | (rw [h1_1]; exact ⟨by rw [if_pos (by decide)]; rfl, rfl⟩) | (rw [h1_2]; exact ⟨by rw [if_neg (by decide)]; rfl, rfl⟩) | (rw [show wh = 10 by omega]; exact ⟨rfl, rfl⟩)
  · refine g_tableIn hX (pc := 1) (tgt := 66) (off := 65) dX2_many_1 (by rw [h1_2]; decide) (by rw [h1_2]; decide) (by rw [h1_2]; rfl) rfl ?_
    refine g_aload_n hX (pc := 66) dX2_many_66 0 rfl ?_
    refine g_iload_n hX (pc := 67) dX2_many_67 1 rfl ?_
    refine g_iconst hX (pc := 68) (v := 1) dX2_many_68 (by decide) ?_
    refine g_val (v := if (nI wh) = 1 then 0 else 3) (pcJ := 77) (st1 := [.ref n]) (fun hj8 => ?_) ?_
    · refine g_icmp_ne hX (pc := 69) (tgt := 76) dX2_many_69 rfl (fun c9 => ?_) (fun c9 => ?_)
      · refine g_iconst hX (pc := 76) (v := 3) dX2_many_76 (by decide) ?_
        exact hj8 _ (by rw [if_neg c9])
      · refine g_iconst hX (pc := 72) (v := 0) dX2_many_72 (by decide) ?_
        refine g_goto hX (pc := 73) (tgt := 77) dX2_many_73 rfl ?_
        exact hj8 _ (by rw [if_pos c9])
    refine g_callV hX (pc := 77) kX2_countOf (mt_Net_countOf E l n lm lb lr P wm wM fz (if (nI wh) = 1 then 0 else 3) hML (h5)) q752 fcX2 (sp_mem (i := 0) rfl) [0, 0, 0] rfl rfl rfl (Nat.le_of_ble_eq_true rfl) (Nat.le_of_ble_eq_true rfl) (Nat.le_of_ble_eq_true rfl) (by omega) (by omega) dX2_many_77 (fun v w1 hp => ?_)
    obtain ⟨rfl, rfl⟩ := hp
    refine g_nrm (cs1 := [[(n, ob 1 [.ref lm, .ref lb, .ref lr, .int (nLo P), .int (nNow P)])], wm, wM, wb, wr, wq]) (st1 := [.int (nI (cntOf (nM P) (if (nI wh) = 1 then 0 else 3) (List.length (nM P))))]) rfl rfl ?_
    refine g_iret hX (pc := 80) hR ?_ (by omega) (by omega) dX2_many_80
    first | (rw [h1_0]; exact ⟨rfl, rfl⟩) | (rw [h1_3]; exact ⟨rfl, rfl⟩) | (rw [h1_4]; exact ⟨rfl, rfl⟩) | (rw [h1_5]; exact ⟨rfl, rfl⟩) | (rw [h1_6]; exact ⟨rfl, rfl⟩) | (rw [h1_7]; exact ⟨rfl, rfl⟩) | (rw [h1_8]; exact ⟨rfl, rfl⟩) | (rw [h1_9]; exact ⟨rfl, rfl⟩) | (rw [h1_1]; exact ⟨by rw [if_pos (by decide)]; rfl, rfl⟩) | (rw [h1_2]; exact ⟨by rw [if_neg (by decide)]; rfl, rfl⟩) | (rw [show wh = 10 by omega]; exact ⟨rfl, rfl⟩)
  · refine g_tableIn hX (pc := 1) (tgt := 81) (off := 80) dX2_many_1 (by rw [h1_3]; decide) (by rw [h1_3]; decide) (by rw [h1_3]; rfl) rfl ?_
    refine g_aload_n hX (pc := 81) dX2_many_81 0 rfl ?_
    refine g_iconst hX (pc := 82) (v := 1) dX2_many_82 (by decide) ?_
    refine g_callV hX (pc := 83) kX2_greatest (mt_Net_gretT E l n lm lb lr P wm wM fz hML (h5)) q756 fcX2 (sp_mem (i := 0) rfl) [0, 0, 0] rfl rfl rfl (Nat.le_of_ble_eq_true rfl) (Nat.le_of_ble_eq_true rfl) (Nat.le_of_ble_eq_true rfl) (by omega) (by omega) dX2_many_83 (fun v w1 hp => ?_)
    obtain ⟨rfl, rfl⟩ := hp
    refine g_nrm (cs1 := [[(n, ob 1 [.ref lm, .ref lb, .ref lr, .int (nLo P), .int (nNow P)])], wm, wM, wb, wr, wq]) (st1 := [.int (gretT (nM P) (List.length (nM P)))]) rfl rfl ?_
    refine g_iret hX (pc := 86) hR ?_ (by omega) (by omega) dX2_many_86
    first | (rw [h1_0]; exact ⟨rfl, rfl⟩) | (rw [h1_3]; exact ⟨rfl, rfl⟩) | (rw [h1_4]; exact ⟨rfl, rfl⟩) | (rw [h1_5]; exact ⟨rfl, rfl⟩) | (rw [h1_6]; exact ⟨rfl, rfl⟩) | (rw [h1_7]; exact ⟨rfl, rfl⟩) | (rw [h1_8]; exact ⟨rfl, rfl⟩) | (rw [h1_9]; exact ⟨rfl, rfl⟩) | (rw [h1_1]; exact ⟨by rw [if_pos (by decide)]; rfl, rfl⟩) | (rw [h1_2]; exact ⟨by rw [if_neg (by decide)]; rfl, rfl⟩) | (rw [show wh = 10 by omega]; exact ⟨rfl, rfl⟩)
  · refine g_tableIn hX (pc := 1) (tgt := 87) (off := 86) dX2_many_1 (by rw [h1_4]; decide) (by rw [h1_4]; decide) (by rw [h1_4]; rfl) rfl ?_
    obtain ⟨as10, hal11, hln12⟩ := BL.al hB
    refine g_aload_n hX (pc := 87) dX2_many_87 0 rfl ?_
    refine g_get hX (pc := 88) fcX2 0 rfl 1 (by decide) q157 rfl (v := .ref lb) rfl dX2_many_88 ?_
    obtain ⟨fs13, hm14⟩ := AL.head hal11
    refine g_callF hX (pc := 91) kfJ2_size (mt_AL_size E l lb as10 wb hal11) q189 fcJ2 (sp_in 3 rfl hm14) [3] rfl rfl rfl (Nat.le_of_ble_eq_true rfl) (Nat.le_of_ble_eq_true rfl) (Nat.le_of_ble_eq_true rfl) (by omega) (by omega) dX2_many_91 (fun v w1 hp => ?_)
    obtain ⟨rfl, rfl⟩ := hp
    refine g_nrm (cs1 := [wb, [(n, ob 1 [.ref lm, .ref lb, .ref lr, .int (nLo P), .int (nNow P)])], wm, wM, wr, wq]) (st1 := [.int (nI (List.length as10))]) rfl rfl ?_
    refine g_eqi (nI (List.length (nB P))) (by rw [hln12]) ?_
    refine g_pk [1, 1, 1, 0, 0, 0] rfl ?_
    refine g_cs (cs1 := [[(n, ob 1 [.ref lm, .ref lb, .ref lr, .int (nLo P), .int (nNow P)])], wm, wM, wb, wr, wq]) rfl ?_
    refine g_iret hX (pc := 96) hR ?_ (by omega) (by omega) dX2_many_96
    first | (rw [h1_0]; exact ⟨rfl, rfl⟩) | (rw [h1_3]; exact ⟨rfl, rfl⟩) | (rw [h1_4]; exact ⟨rfl, rfl⟩) | (rw [h1_5]; exact ⟨rfl, rfl⟩) | (rw [h1_6]; exact ⟨rfl, rfl⟩) | (rw [h1_7]; exact ⟨rfl, rfl⟩) | (rw [h1_8]; exact ⟨rfl, rfl⟩) | (rw [h1_9]; exact ⟨rfl, rfl⟩) | (rw [h1_1]; exact ⟨by rw [if_pos (by decide)]; rfl, rfl⟩) | (rw [h1_2]; exact ⟨by rw [if_neg (by decide)]; rfl, rfl⟩) | (rw [show wh = 10 by omega]; exact ⟨rfl, rfl⟩)
  · refine g_tableIn hX (pc := 1) (tgt := 97) (off := 96) dX2_many_1 (by rw [h1_5]; decide) (by rw [h1_5]; decide) (by rw [h1_5]; rfl) rfl ?_
    refine g_aload_n hX (pc := 97) dX2_many_97 0 rfl ?_
    refine g_get hX (pc := 98) fcX2 0 rfl 3 (by decide) q161 rfl (v := .int (nLo P)) rfl dX2_many_98 ?_
    refine g_iret hX (pc := 101) hR ?_ (by omega) (by omega) dX2_many_101
    first | (rw [h1_0]; exact ⟨rfl, rfl⟩) | (rw [h1_3]; exact ⟨rfl, rfl⟩) | (rw [h1_4]; exact ⟨rfl, rfl⟩) | (rw [h1_5]; exact ⟨rfl, rfl⟩) | (rw [h1_6]; exact ⟨rfl, rfl⟩) | (rw [h1_7]; exact ⟨rfl, rfl⟩) | (rw [h1_8]; exact ⟨rfl, rfl⟩) | (rw [h1_9]; exact ⟨rfl, rfl⟩) | (rw [h1_1]; exact ⟨by rw [if_pos (by decide)]; rfl, rfl⟩) | (rw [h1_2]; exact ⟨by rw [if_neg (by decide)]; rfl, rfl⟩) | (rw [show wh = 10 by omega]; exact ⟨rfl, rfl⟩)
  · refine g_tableIn hX (pc := 1) (tgt := 102) (off := 101) dX2_many_1 (by rw [h1_6]; decide) (by rw [h1_6]; decide) (by rw [h1_6]; rfl) rfl ?_
    obtain ⟨as15, hal16, hln17⟩ := RL.al hRq
    refine g_aload_n hX (pc := 102) dX2_many_102 0 rfl ?_
    refine g_get hX (pc := 103) fcX2 0 rfl 2 (by decide) q159 rfl (v := .ref lr) rfl dX2_many_103 ?_
    obtain ⟨fs18, hm19⟩ := AL.head hal16
    refine g_callF hX (pc := 106) kfJ2_size (mt_AL_size E l lr as15 wr hal16) q189 fcJ2 (sp_in 4 rfl hm19) [4] rfl rfl rfl (Nat.le_of_ble_eq_true rfl) (Nat.le_of_ble_eq_true rfl) (Nat.le_of_ble_eq_true rfl) (by omega) (by omega) dX2_many_106 (fun v w1 hp => ?_)
    obtain ⟨rfl, rfl⟩ := hp
    refine g_nrm (cs1 := [wr, [(n, ob 1 [.ref lm, .ref lb, .ref lr, .int (nLo P), .int (nNow P)])], wm, wM, wb, wq]) (st1 := [.int (nI (List.length as15))]) rfl rfl ?_
    refine g_eqi (nI (List.length (nR P))) (by rw [hln17]) ?_
    refine g_pk [1, 1, 1, 1, 0, 0] rfl ?_
    refine g_cs (cs1 := [[(n, ob 1 [.ref lm, .ref lb, .ref lr, .int (nLo P), .int (nNow P)])], wm, wM, wb, wr, wq]) rfl ?_
    refine g_iret hX (pc := 111) hR ?_ (by omega) (by omega) dX2_many_111
    first | (rw [h1_0]; exact ⟨rfl, rfl⟩) | (rw [h1_3]; exact ⟨rfl, rfl⟩) | (rw [h1_4]; exact ⟨rfl, rfl⟩) | (rw [h1_5]; exact ⟨rfl, rfl⟩) | (rw [h1_6]; exact ⟨rfl, rfl⟩) | (rw [h1_7]; exact ⟨rfl, rfl⟩) | (rw [h1_8]; exact ⟨rfl, rfl⟩) | (rw [h1_9]; exact ⟨rfl, rfl⟩) | (rw [h1_1]; exact ⟨by rw [if_pos (by decide)]; rfl, rfl⟩) | (rw [h1_2]; exact ⟨by rw [if_neg (by decide)]; rfl, rfl⟩) | (rw [show wh = 10 by omega]; exact ⟨rfl, rfl⟩)
  · refine g_tableIn hX (pc := 1) (tgt := 112) (off := 111) dX2_many_1 (by rw [h1_7]; decide) (by rw [h1_7]; decide) (by rw [h1_7]; rfl) rfl ?_
    refine g_aload_n hX (pc := 112) dX2_many_112 0 rfl ?_
    refine g_callV hX (pc := 113) kX2_countAnswered (mt_Net_countAnswered E l n lm lb lr P wr wq hRq (h40)) q760 fcX2 (sp_mem (i := 0) rfl) [0, 3, 3] rfl rfl rfl (Nat.le_of_ble_eq_true rfl) (Nat.le_of_ble_eq_true rfl) (Nat.le_of_ble_eq_true rfl) (by omega) (by omega) dX2_many_113 (fun v w1 hp => ?_)
    obtain ⟨rfl, rfl⟩ := hp
    refine g_nrm (cs1 := [[(n, ob 1 [.ref lm, .ref lb, .ref lr, .int (nLo P), .int (nNow P)])], wr, wq, wm, wM, wb]) (st1 := [.int (nI (cntAn (nR P) (List.length (nR P))))]) rfl rfl ?_
    refine g_pk [0, 2, 2, 2, 0, 0] rfl ?_
    refine g_cs (cs1 := [[(n, ob 1 [.ref lm, .ref lb, .ref lr, .int (nLo P), .int (nNow P)])], wm, wM, wb, wr, wq]) rfl ?_
    refine g_iret hX (pc := 116) hR ?_ (by omega) (by omega) dX2_many_116
    first | (rw [h1_0]; exact ⟨rfl, rfl⟩) | (rw [h1_3]; exact ⟨rfl, rfl⟩) | (rw [h1_4]; exact ⟨rfl, rfl⟩) | (rw [h1_5]; exact ⟨rfl, rfl⟩) | (rw [h1_6]; exact ⟨rfl, rfl⟩) | (rw [h1_7]; exact ⟨rfl, rfl⟩) | (rw [h1_8]; exact ⟨rfl, rfl⟩) | (rw [h1_9]; exact ⟨rfl, rfl⟩) | (rw [h1_1]; exact ⟨by rw [if_pos (by decide)]; rfl, rfl⟩) | (rw [h1_2]; exact ⟨by rw [if_neg (by decide)]; rfl, rfl⟩) | (rw [show wh = 10 by omega]; exact ⟨rfl, rfl⟩)
  · refine g_tableIn hX (pc := 1) (tgt := 117) (off := 116) dX2_many_1 (by rw [h1_8]; decide) (by rw [h1_8]; decide) (by rw [h1_8]; rfl) rfl ?_
    refine g_aload_n hX (pc := 117) dX2_many_117 0 rfl ?_
    refine g_get hX (pc := 118) fcX2 0 rfl 4 (by decide) q163 rfl (v := .int (nNow P)) rfl dX2_many_118 ?_
    refine g_iret hX (pc := 121) hR ?_ (by omega) (by omega) dX2_many_121
    first | (rw [h1_0]; exact ⟨rfl, rfl⟩) | (rw [h1_3]; exact ⟨rfl, rfl⟩) | (rw [h1_4]; exact ⟨rfl, rfl⟩) | (rw [h1_5]; exact ⟨rfl, rfl⟩) | (rw [h1_6]; exact ⟨rfl, rfl⟩) | (rw [h1_7]; exact ⟨rfl, rfl⟩) | (rw [h1_8]; exact ⟨rfl, rfl⟩) | (rw [h1_9]; exact ⟨rfl, rfl⟩) | (rw [h1_1]; exact ⟨by rw [if_pos (by decide)]; rfl, rfl⟩) | (rw [h1_2]; exact ⟨by rw [if_neg (by decide)]; rfl, rfl⟩) | (rw [show wh = 10 by omega]; exact ⟨rfl, rfl⟩)
  · refine g_tableIn hX (pc := 1) (tgt := 122) (off := 121) dX2_many_1 (by rw [h1_9]; decide) (by rw [h1_9]; decide) (by rw [h1_9]; rfl) rfl ?_
    refine g_aload_n hX (pc := 122) dX2_many_122 0 rfl ?_
    refine g_iconst hX (pc := 123) (v := 0) dX2_many_123 (by decide) ?_
    refine g_callV hX (pc := 124) kX2_greatest (mt_Net_gretS E l n lm lb lr P wm wM fz b hML (h5) (hsb) (hb)) q756 fcX2 (sp_mem (i := 0) rfl) [0, 0, 0] rfl rfl rfl (Nat.le_of_ble_eq_true rfl) (Nat.le_of_ble_eq_true rfl) (Nat.le_of_ble_eq_true rfl) (by omega) (by omega) dX2_many_124 (fun v w1 hp => ?_)
    obtain ⟨rfl, rfl⟩ := hp
    refine g_nrm (cs1 := [[(n, ob 1 [.ref lm, .ref lb, .ref lr, .int (nLo P), .int (nNow P)])], wm, wM, wb, wr, wq]) (st1 := [.int (nI (gretS (nM P) (List.length (nM P))))]) rfl rfl ?_
    refine g_iret hX (pc := 127) hR ?_ (by omega) (by omega) dX2_many_127
    first | (rw [h1_0]; exact ⟨rfl, rfl⟩) | (rw [h1_3]; exact ⟨rfl, rfl⟩) | (rw [h1_4]; exact ⟨rfl, rfl⟩) | (rw [h1_5]; exact ⟨rfl, rfl⟩) | (rw [h1_6]; exact ⟨rfl, rfl⟩) | (rw [h1_7]; exact ⟨rfl, rfl⟩) | (rw [h1_8]; exact ⟨rfl, rfl⟩) | (rw [h1_9]; exact ⟨rfl, rfl⟩) | (rw [h1_1]; exact ⟨by rw [if_pos (by decide)]; rfl, rfl⟩) | (rw [h1_2]; exact ⟨by rw [if_neg (by decide)]; rfl, rfl⟩) | (rw [show wh = 10 by omega]; exact ⟨rfl, rfl⟩)
  · have h1_d : 9 < wh := by omega
    refine g_tableOut hX (pc := 1) (tgt := 128) dX2_many_1 (by rw [nI_toInt (by omega)]; omega) rfl ?_
    refine g_aload_n hX (pc := 128) dX2_many_128 0 rfl ?_
    refine g_callV hX (pc := 129) kX2_smallestDone (mt_Net_smallestDone E l n lm lb lr P wm wM fz hML (h5)) q764 fcX2 (sp_mem (i := 0) rfl) [0, 0, 0] rfl rfl rfl (Nat.le_of_ble_eq_true rfl) (Nat.le_of_ble_eq_true rfl) (Nat.le_of_ble_eq_true rfl) (by omega) (by omega) dX2_many_129 (fun v w1 hp => ?_)
    obtain ⟨rfl, rfl⟩ := hp
    refine g_nrm (cs1 := [[(n, ob 1 [.ref lm, .ref lb, .ref lr, .int (nLo P), .int (nNow P)])], wm, wM, wb, wr, wq]) (st1 := [.int (smallD (nM P))]) rfl rfl ?_
    refine g_iret hX (pc := 132) hR ?_ (by omega) (by omega) dX2_many_132
    first | (rw [h1_0]; exact ⟨rfl, rfl⟩) | (rw [h1_3]; exact ⟨rfl, rfl⟩) | (rw [h1_4]; exact ⟨rfl, rfl⟩) | (rw [h1_5]; exact ⟨rfl, rfl⟩) | (rw [h1_6]; exact ⟨rfl, rfl⟩) | (rw [h1_7]; exact ⟨rfl, rfl⟩) | (rw [h1_8]; exact ⟨rfl, rfl⟩) | (rw [h1_9]; exact ⟨rfl, rfl⟩) | (rw [h1_1]; exact ⟨by rw [if_pos (by decide)]; rfl, rfl⟩) | (rw [h1_2]; exact ⟨by rw [if_neg (by decide)]; rfl, rfl⟩) | (rw [show wh = 10 by omega]; exact ⟨rfl, rfl⟩)
