set_option maxHeartbeats 4000000 in
theorem mt_Q_upAtI (E : EE) (l : Launch) (o : Nat) (n : Nat) (lm : Nat) (lb : Nat) (lr : Nat) (lo : Int32) (nw : Int32) (mas : List Nat) (wm : va_W) (k : Nat) (m : Nat) (M : PM) (fz : va_W) (wM : va_W) (hAm : AL E lm mas wm) (hMI : MachIn E fz m M wM) (hk : (mas[k]? = some m)) (hl5 : (mas.length ≤ 5)) (hu : (¬ mR M = 0)) : Mt E l yX1_upAt cX1_upAt 3 (some (.object "Quorumspire$Machine")) 6 0 0 107 [.ref o, .int (nI k)] [[(o, ob 0 [.ref n])], [(n, ob 1 [.ref lm, .ref lb, .ref lr, .int lo, .int nw])], wm, wM] (fun (v_ : Option Value) (cs_ : List va_W) => v_ = some (.ref m) ∧ cs_ = [[(o, ob 0 [.ref n])], [(n, ob 1 [.ref lm, .ref lb, .ref lr, .int lo, .int nw])], wm, wM]) := by
  refine Mt.of (by decide) (Nat.le_of_ble_eq_true rfl) (fun X hX hR hin => ?_)
  refine g_lv1 (lv1 := [(0, .ref o), (1, .int (nI k))]) rfl ?_
  refine g_aload_n hX (pc := 0) dX1_upAt_0 0 rfl ?_
  refine g_iload_n hX (pc := 1) dX1_upAt_1 1 rfl ?_
  refine g_callV hX (pc := 2) kX1_machineAt (mt_Q_machineAtI E l o n lm lb lr lo nw mas wm k m M fz wM hAm hMI (hk) (hl5)) q1360 fcX1 (sp_mem (i := 0) rfl) [0, 0, 0, 0] rfl rfl rfl (Nat.le_of_ble_eq_true rfl) (Nat.le_of_ble_eq_true rfl) (Nat.le_of_ble_eq_true rfl) (Nat.le_of_ble_eq_true rfl) (Nat.le_of_ble_eq_true rfl) dX1_upAt_2 (fun v w1 hp => ?_)
  obtain ⟨rfl, rfl⟩ := hp
  refine g_nrm (cs1 := [[(o, ob 0 [.ref n])], [(n, ob 1 [.ref lm, .ref lb, .ref lr, .int lo, .int nw])], wm, wM]) (st1 := [.ref m]) rfl rfl ?_
  refine g_astore_n hX (pc := 5) (lv1 := [(2, .ref m), (0, .ref o), (1, .int (nI k))]) dX1_upAt_5 (by decide) rfl ?_
  obtain ⟨rn1, rk2, rl3, rs4, rst5, la6, sp7, lb8, sp29, fn10, fk11, m012, arr13, m114, arr115, h116, h217, h318, h419, h520, h621, h722, hn23⟩ := hMI.peek
  refine g_aload_n hX (pc := 6) dX1_upAt_6 0 rfl ?_
  refine g_callV hX (pc := 7) kX9_isUp (mt_Machine_isUpI E l m M fz wM hMI) q1035 fcX9 (sp_in 3 rfl h116) [3] rfl rfl rfl (Nat.le_of_ble_eq_true rfl) (Nat.le_of_ble_eq_true rfl) (Nat.le_of_ble_eq_true rfl) (Nat.le_of_ble_eq_true rfl) (Nat.le_of_ble_eq_true rfl) dX1_upAt_7 (fun v w1 hp => ?_)
  obtain ⟨rfl, rfl⟩ := hp
  refine g_nrm (cs1 := [wM, [(o, ob 0 [.ref n])], [(n, ob 1 [.ref lm, .ref lb, .ref lr, .int lo, .int nw])], wm]) (st1 := [.int (if mR M = 0 then 0 else 1)]) rfl rfl ?_
  refine g_eqi 1 (if_neg hu) ?_
  refine g_callS hX (pc := 10) kX1_checkState (mt_checkState E l ) q1268 [] rfl rfl rfl (Nat.le_of_ble_eq_true rfl) (Nat.le_of_ble_eq_true rfl) (Nat.le_of_ble_eq_true rfl) (Nat.le_of_ble_eq_true rfl) (Nat.le_of_ble_eq_true rfl) dX1_upAt_10 (fun v w1 hp => ?_)
  obtain ⟨rfl, rfl⟩ := hp
  refine g_nrm (cs1 := [wM, [(o, ob 0 [.ref n])], [(n, ob 1 [.ref lm, .ref lb, .ref lr, .int lo, .int nw])], wm]) (st1 := []) rfl rfl ?_
  refine g_aload_n hX (pc := 13) dX1_upAt_13 0 rfl ?_
  refine g_pk [1, 1, 1, 0] rfl ?_
  refine g_cs (cs1 := [[(o, ob 0 [.ref n])], [(n, ob 1 [.ref lm, .ref lb, .ref lr, .int lo, .int nw])], wm, wM]) rfl ?_
  refine g_aret hX (pc := 14) hR (by first | exact Or.inl ⟨_, rfl⟩ | exact Or.inr ⟨_, rfl⟩) ?_ (Nat.le_of_ble_eq_true rfl) (Nat.le_of_ble_eq_true rfl) dX1_upAt_14
  exact ⟨rfl, rfl⟩

set_option maxHeartbeats 4000000 in
theorem mx_Q_lazy_P (E : EE) (l : Launch) (hl0 : l.stackTraces = false) (o : Nat) (n : Nat) (lm : Nat) (lb : Nat) (lr : Nat) (P : PN) (wm : va_W) (wM : va_W) (fz : va_W) (i : Int32) (z : Int32) (hML : ML E fz lm (nM P) wm wM) (hb : (i < 0 ∨ ¬ i < nI (List.length (nM P)))) : Mx E l yX1_lazy cX1_lazy 5 (some .boolean) 8 1 6 123 [.ref o, .int i, .int z] [[(o, ob 0 [.ref n])], [(n, ob 1 [.ref lm, .ref lb, .ref lr, .int (nLo P), .int (nNow P)])], wm] (fun (_ : Option Value) (_ : List va_W) => False) (fun (C_ : String) (cs_ : List va_W) => C_ = "java/lang/IndexOutOfBoundsException" ∧ cs_ = [[(o, ob 0 [.ref n])], [(n, ob 1 [.ref lm, .ref lb, .ref lr, .int (nLo P), .int (nNow P)])], wm]) := by
  obtain ⟨mas, hAm, hml⟩ := ML.al hML
  rw [← hml] at hb
  refine Mx.of (by decide) (Nat.le_of_ble_eq_true rfl) (fun X hX hR hT => ?_)
  refine g_lv1 (lv1 := [(0, .ref o), (1, .int i), (2, .int z)]) rfl ?_
  refine g_aload_n hX (pc := 0) dX1_lazy_0 0 rfl ?_
  refine g_iload_n hX (pc := 1) dX1_lazy_1 1 rfl ?_
  refine gx_callV hX (pc := 2) kX1_machineAt (mx_Q_machineAt E l hl0 o n lm lb lr (nLo P) (nNow P) mas wm i hAm (hb)) q1360 fcX1 (sp_mem (i := 0) rfl) [0, 0, 0] rfl rfl rfl (Nat.le_of_ble_eq_true rfl) (Nat.le_of_ble_eq_true rfl) (Nat.le_of_ble_eq_true rfl) (Nat.le_of_ble_eq_true rfl) (Nat.le_of_ble_eq_true rfl) dX1_lazy_2 (fun C q w1 hp => ?_) (fun v w1 hp => hp.elim)
  obtain ⟨rfl, rfl⟩ := hp
  exact gx_out hX hR hT (Nat.le_of_ble_eq_true rfl) (Nat.le_of_ble_eq_true rfl) ⟨rfl, rfl⟩

set_option maxHeartbeats 4000000 in
theorem mx_Q_stand_P (E : EE) (l : Launch) (hl0 : l.stackTraces = false) (o : Nat) (n : Nat) (lm : Nat) (lb : Nat) (lr : Nat) (P : PN) (wm : va_W) (wM : va_W) (fz : va_W) (i : Int32) (hML : ML E fz lm (nM P) wm wM) (hb : (i < 0 ∨ ¬ i < nI (List.length (nM P)))) : Mx E l yX1_stand cX1_stand 3 (some .int) 9 1 6 145 [.ref o, .int i] [[(o, ob 0 [.ref n])], [(n, ob 1 [.ref lm, .ref lb, .ref lr, .int (nLo P), .int (nNow P)])], wm] (fun (_ : Option Value) (_ : List va_W) => False) (fun (C_ : String) (cs_ : List va_W) => C_ = "java/lang/IndexOutOfBoundsException" ∧ cs_ = [[(o, ob 0 [.ref n])], [(n, ob 1 [.ref lm, .ref lb, .ref lr, .int (nLo P), .int (nNow P)])], wm]) := by
  obtain ⟨mas, hAm, hml⟩ := ML.al hML
  rw [← hml] at hb
  refine Mx.of (by decide) (Nat.le_of_ble_eq_true rfl) (fun X hX hR hT => ?_)
  refine g_lv1 (lv1 := [(0, .ref o), (1, .int i)]) rfl ?_
  refine g_aload_n hX (pc := 0) dX1_stand_0 0 rfl ?_
  refine g_iload_n hX (pc := 1) dX1_stand_1 1 rfl ?_
  refine gx_callV hX (pc := 2) kX1_upAt (mx_Q_upAtP E l hl0 o n lm lb lr (nLo P) (nNow P) mas wm i hAm (hb)) q1380 fcX1 (sp_mem (i := 0) rfl) [0, 0, 0] rfl rfl rfl (Nat.le_of_ble_eq_true rfl) (Nat.le_of_ble_eq_true rfl) (Nat.le_of_ble_eq_true rfl) (Nat.le_of_ble_eq_true rfl) (Nat.le_of_ble_eq_true rfl) dX1_stand_2 (fun C q w1 hp => ?_) (fun v w1 hp => hp.elim)
  obtain ⟨rfl, rfl⟩ := hp
  exact gx_out hX hR hT (Nat.le_of_ble_eq_true rfl) (Nat.le_of_ble_eq_true rfl) ⟨rfl, rfl⟩

set_option maxHeartbeats 4000000 in
theorem mx_Q_beat_P (E : EE) (l : Launch) (hl0 : l.stackTraces = false) (o : Nat) (n : Nat) (lm : Nat) (lb : Nat) (lr : Nat) (P : PN) (wm : va_W) (wM : va_W) (fz : va_W) (i : Int32) (hML : ML E fz lm (nM P) wm wM) (hb : (i < 0 ∨ ¬ i < nI (List.length (nM P)))) : Mx E l yX1_beat cX1_beat 3 (some .int) 8 1 6 123 [.ref o, .int i] [[(o, ob 0 [.ref n])], [(n, ob 1 [.ref lm, .ref lb, .ref lr, .int (nLo P), .int (nNow P)])], wm] (fun (_ : Option Value) (_ : List va_W) => False) (fun (C_ : String) (cs_ : List va_W) => C_ = "java/lang/IndexOutOfBoundsException" ∧ cs_ = [[(o, ob 0 [.ref n])], [(n, ob 1 [.ref lm, .ref lb, .ref lr, .int (nLo P), .int (nNow P)])], wm]) := by
  obtain ⟨mas, hAm, hml⟩ := ML.al hML
  rw [← hml] at hb
  refine Mx.of (by decide) (Nat.le_of_ble_eq_true rfl) (fun X hX hR hT => ?_)
  refine g_lv1 (lv1 := [(0, .ref o), (1, .int i)]) rfl ?_
  refine g_aload_n hX (pc := 0) dX1_beat_0 0 rfl ?_
  refine g_iload_n hX (pc := 1) dX1_beat_1 1 rfl ?_
  refine gx_callV hX (pc := 2) kX1_machineAt (mx_Q_machineAt E l hl0 o n lm lb lr (nLo P) (nNow P) mas wm i hAm (hb)) q1360 fcX1 (sp_mem (i := 0) rfl) [0, 0, 0] rfl rfl rfl (Nat.le_of_ble_eq_true rfl) (Nat.le_of_ble_eq_true rfl) (Nat.le_of_ble_eq_true rfl) (Nat.le_of_ble_eq_true rfl) (Nat.le_of_ble_eq_true rfl) dX1_beat_2 (fun C q w1 hp => ?_) (fun v w1 hp => hp.elim)
  obtain ⟨rfl, rfl⟩ := hp
  exact gx_out hX hR hT (Nat.le_of_ble_eq_true rfl) (Nat.le_of_ble_eq_true rfl) ⟨rfl, rfl⟩

set_option maxHeartbeats 4000000 in
theorem mx_Q_crash_P (E : EE) (l : Launch) (hl0 : l.stackTraces = false) (o : Nat) (n : Nat) (lm : Nat) (lb : Nat) (lr : Nat) (P : PN) (wm : va_W) (wM : va_W) (fz : va_W) (i : Int32) (hML : ML E fz lm (nM P) wm wM) (hb : (i < 0 ∨ ¬ i < nI (List.length (nM P)))) : Mx E l yX1_crash cX1_crash 4 (some .int) 9 1 6 145 [.ref o, .int i] [[(o, ob 0 [.ref n])], [(n, ob 1 [.ref lm, .ref lb, .ref lr, .int (nLo P), .int (nNow P)])], wm] (fun (_ : Option Value) (_ : List va_W) => False) (fun (C_ : String) (cs_ : List va_W) => C_ = "java/lang/IndexOutOfBoundsException" ∧ cs_ = [[(o, ob 0 [.ref n])], [(n, ob 1 [.ref lm, .ref lb, .ref lr, .int (nLo P), .int (nNow P)])], wm]) := by
  obtain ⟨mas, hAm, hml⟩ := ML.al hML
  rw [← hml] at hb
  refine Mx.of (by decide) (Nat.le_of_ble_eq_true rfl) (fun X hX hR hT => ?_)
  refine g_lv1 (lv1 := [(0, .ref o), (1, .int i)]) rfl ?_
  refine g_aload_n hX (pc := 0) dX1_crash_0 0 rfl ?_
  refine g_iload_n hX (pc := 1) dX1_crash_1 1 rfl ?_
  refine gx_callV hX (pc := 2) kX1_upAt (mx_Q_upAtP E l hl0 o n lm lb lr (nLo P) (nNow P) mas wm i hAm (hb)) q1380 fcX1 (sp_mem (i := 0) rfl) [0, 0, 0] rfl rfl rfl (Nat.le_of_ble_eq_true rfl) (Nat.le_of_ble_eq_true rfl) (Nat.le_of_ble_eq_true rfl) (Nat.le_of_ble_eq_true rfl) (Nat.le_of_ble_eq_true rfl) dX1_crash_2 (fun C q w1 hp => ?_) (fun v w1 hp => hp.elim)
  obtain ⟨rfl, rfl⟩ := hp
  exact gx_out hX hR hT (Nat.le_of_ble_eq_true rfl) (Nat.le_of_ble_eq_true rfl) ⟨rfl, rfl⟩

set_option maxHeartbeats 4000000 in
theorem mx_Q_start_P (E : EE) (l : Launch) (hl0 : l.stackTraces = false) (o : Nat) (n : Nat) (lm : Nat) (lb : Nat) (lr : Nat) (P : PN) (wm : va_W) (wM : va_W) (fz : va_W) (i : Int32) (hML : ML E fz lm (nM P) wm wM) (hb : (i < 0 ∨ ¬ i < nI (List.length (nM P)))) : Mx E l yX1_start cX1_start 3 (some .int) 8 1 6 123 [.ref o, .int i] [[(o, ob 0 [.ref n])], [(n, ob 1 [.ref lm, .ref lb, .ref lr, .int (nLo P), .int (nNow P)])], wm] (fun (_ : Option Value) (_ : List va_W) => False) (fun (C_ : String) (cs_ : List va_W) => C_ = "java/lang/IndexOutOfBoundsException" ∧ cs_ = [[(o, ob 0 [.ref n])], [(n, ob 1 [.ref lm, .ref lb, .ref lr, .int (nLo P), .int (nNow P)])], wm]) := by
  obtain ⟨mas, hAm, hml⟩ := ML.al hML
  rw [← hml] at hb
  refine Mx.of (by decide) (Nat.le_of_ble_eq_true rfl) (fun X hX hR hT => ?_)
  refine g_lv1 (lv1 := [(0, .ref o), (1, .int i)]) rfl ?_
  refine g_aload_n hX (pc := 0) dX1_start_0 0 rfl ?_
  refine g_iload_n hX (pc := 1) dX1_start_1 1 rfl ?_
  refine gx_callV hX (pc := 2) kX1_machineAt (mx_Q_machineAt E l hl0 o n lm lb lr (nLo P) (nNow P) mas wm i hAm (hb)) q1360 fcX1 (sp_mem (i := 0) rfl) [0, 0, 0] rfl rfl rfl (Nat.le_of_ble_eq_true rfl) (Nat.le_of_ble_eq_true rfl) (Nat.le_of_ble_eq_true rfl) (Nat.le_of_ble_eq_true rfl) (Nat.le_of_ble_eq_true rfl) dX1_start_2 (fun C q w1 hp => ?_) (fun v w1 hp => hp.elim)
  obtain ⟨rfl, rfl⟩ := hp
  exact gx_out hX hR hT (Nat.le_of_ble_eq_true rfl) (Nat.le_of_ble_eq_true rfl) ⟨rfl, rfl⟩

set_option maxHeartbeats 4000000 in
theorem mx_Q_save_P (E : EE) (l : Launch) (hl0 : l.stackTraces = false) (o : Nat) (n : Nat) (lm : Nat) (lb : Nat) (lr : Nat) (P : PN) (wm : va_W) (wM : va_W) (fz : va_W) (i : Int32) (hML : ML E fz lm (nM P) wm wM) (hb : (i < 0 ∨ ¬ i < nI (List.length (nM P)))) : Mx E l yX1_save cX1_save 3 (some .int) 9 1 6 145 [.ref o, .int i] [[(o, ob 0 [.ref n])], [(n, ob 1 [.ref lm, .ref lb, .ref lr, .int (nLo P), .int (nNow P)])], wm] (fun (_ : Option Value) (_ : List va_W) => False) (fun (C_ : String) (cs_ : List va_W) => C_ = "java/lang/IndexOutOfBoundsException" ∧ cs_ = [[(o, ob 0 [.ref n])], [(n, ob 1 [.ref lm, .ref lb, .ref lr, .int (nLo P), .int (nNow P)])], wm]) := by
  obtain ⟨mas, hAm, hml⟩ := ML.al hML
  rw [← hml] at hb
  refine Mx.of (by decide) (Nat.le_of_ble_eq_true rfl) (fun X hX hR hT => ?_)
  refine g_lv1 (lv1 := [(0, .ref o), (1, .int i)]) rfl ?_
  refine g_aload_n hX (pc := 0) dX1_save_0 0 rfl ?_
  refine g_iload_n hX (pc := 1) dX1_save_1 1 rfl ?_
  refine gx_callV hX (pc := 2) kX1_upAt (mx_Q_upAtP E l hl0 o n lm lb lr (nLo P) (nNow P) mas wm i hAm (hb)) q1380 fcX1 (sp_mem (i := 0) rfl) [0, 0, 0] rfl rfl rfl (Nat.le_of_ble_eq_true rfl) (Nat.le_of_ble_eq_true rfl) (Nat.le_of_ble_eq_true rfl) (Nat.le_of_ble_eq_true rfl) (Nat.le_of_ble_eq_true rfl) dX1_save_2 (fun C q w1 hp => ?_) (fun v w1 hp => hp.elim)
  obtain ⟨rfl, rfl⟩ := hp
  exact gx_out hX hR hT (Nat.le_of_ble_eq_true rfl) (Nat.le_of_ble_eq_true rfl) ⟨rfl, rfl⟩

set_option maxHeartbeats 4000000 in
theorem mx_Q_compact_P (E : EE) (l : Launch) (hl0 : l.stackTraces = false) (o : Nat) (n : Nat) (lm : Nat) (lb : Nat) (lr : Nat) (P : PN) (wm : va_W) (wM : va_W) (fz : va_W) (i : Int32) (hML : ML E fz lm (nM P) wm wM) (hb : (i < 0 ∨ ¬ i < nI (List.length (nM P)))) : Mx E l yX1_compact cX1_compact 3 (some .int) 9 1 6 145 [.ref o, .int i] [[(o, ob 0 [.ref n])], [(n, ob 1 [.ref lm, .ref lb, .ref lr, .int (nLo P), .int (nNow P)])], wm] (fun (_ : Option Value) (_ : List va_W) => False) (fun (C_ : String) (cs_ : List va_W) => C_ = "java/lang/IndexOutOfBoundsException" ∧ cs_ = [[(o, ob 0 [.ref n])], [(n, ob 1 [.ref lm, .ref lb, .ref lr, .int (nLo P), .int (nNow P)])], wm]) := by
  obtain ⟨mas, hAm, hml⟩ := ML.al hML
  rw [← hml] at hb
  refine Mx.of (by decide) (Nat.le_of_ble_eq_true rfl) (fun X hX hR hT => ?_)
  refine g_lv1 (lv1 := [(0, .ref o), (1, .int i)]) rfl ?_
  refine g_aload_n hX (pc := 0) dX1_compact_0 0 rfl ?_
  refine g_iload_n hX (pc := 1) dX1_compact_1 1 rfl ?_
  refine gx_callV hX (pc := 2) kX1_upAt (mx_Q_upAtP E l hl0 o n lm lb lr (nLo P) (nNow P) mas wm i hAm (hb)) q1380 fcX1 (sp_mem (i := 0) rfl) [0, 0, 0] rfl rfl rfl (Nat.le_of_ble_eq_true rfl) (Nat.le_of_ble_eq_true rfl) (Nat.le_of_ble_eq_true rfl) (Nat.le_of_ble_eq_true rfl) (Nat.le_of_ble_eq_true rfl) dX1_compact_2 (fun C q w1 hp => ?_) (fun v w1 hp => hp.elim)
  obtain ⟨rfl, rfl⟩ := hp
  exact gx_out hX hR hT (Nat.le_of_ble_eq_true rfl) (Nat.le_of_ble_eq_true rfl) ⟨rfl, rfl⟩

set_option maxHeartbeats 4000000 in
theorem mx_Q_ofMachine_P (E : EE) (l : Launch) (hl0 : l.stackTraces = false) (o : Nat) (n : Nat) (lm : Nat) (lb : Nat) (lr : Nat) (P : PN) (wm : va_W) (wM : va_W) (fz : va_W) (i : Int32) (x : Int32) (hML : ML E fz lm (nM P) wm wM) (hb : (i < 0 ∨ ¬ i < nI (List.length (nM P)))) : Mx E l yX1_ofMachine cX1_ofMachine 3 (some .int) 8 1 6 123 [.ref o, .int i, .int x] [[(o, ob 0 [.ref n])], [(n, ob 1 [.ref lm, .ref lb, .ref lr, .int (nLo P), .int (nNow P)])], wm] (fun (_ : Option Value) (_ : List va_W) => False) (fun (C_ : String) (cs_ : List va_W) => C_ = "java/lang/IndexOutOfBoundsException" ∧ cs_ = [[(o, ob 0 [.ref n])], [(n, ob 1 [.ref lm, .ref lb, .ref lr, .int (nLo P), .int (nNow P)])], wm]) := by
  obtain ⟨mas, hAm, hml⟩ := ML.al hML
  rw [← hml] at hb
  refine Mx.of (by decide) (Nat.le_of_ble_eq_true rfl) (fun X hX hR hT => ?_)
  refine g_lv1 (lv1 := [(0, .ref o), (1, .int i), (2, .int x)]) rfl ?_
  refine g_aload_n hX (pc := 0) dX1_ofMachine_0 0 rfl ?_
  refine g_iload_n hX (pc := 1) dX1_ofMachine_1 1 rfl ?_
  refine gx_callV hX (pc := 2) kX1_machineAt (mx_Q_machineAt E l hl0 o n lm lb lr (nLo P) (nNow P) mas wm i hAm (hb)) q1360 fcX1 (sp_mem (i := 0) rfl) [0, 0, 0] rfl rfl rfl (Nat.le_of_ble_eq_true rfl) (Nat.le_of_ble_eq_true rfl) (Nat.le_of_ble_eq_true rfl) (Nat.le_of_ble_eq_true rfl) (Nat.le_of_ble_eq_true rfl) dX1_ofMachine_2 (fun C q w1 hp => ?_) (fun v w1 hp => hp.elim)
  obtain ⟨rfl, rfl⟩ := hp
  exact gx_out hX hR hT (Nat.le_of_ble_eq_true rfl) (Nat.le_of_ble_eq_true rfl) ⟨rfl, rfl⟩

set_option maxHeartbeats 4000000 in
theorem mx_Q_entry_P (E : EE) (l : Launch) (hl0 : l.stackTraces = false) (o : Nat) (n : Nat) (lm : Nat) (lb : Nat) (lr : Nat) (P : PN) (wm : va_W) (wM : va_W) (fz : va_W) (i : Int32) (x : Int32) (y : Int32) (hML : ML E fz lm (nM P) wm wM) (hb : (i < 0 ∨ ¬ i < nI (List.length (nM P)))) : Mx E l yX1_entry cX1_entry 5 (some .int) 8 1 6 123 [.ref o, .int i, .int x, .int y] [[(o, ob 0 [.ref n])], [(n, ob 1 [.ref lm, .ref lb, .ref lr, .int (nLo P), .int (nNow P)])], wm] (fun (_ : Option Value) (_ : List va_W) => False) (fun (C_ : String) (cs_ : List va_W) => C_ = "java/lang/IndexOutOfBoundsException" ∧ cs_ = [[(o, ob 0 [.ref n])], [(n, ob 1 [.ref lm, .ref lb, .ref lr, .int (nLo P), .int (nNow P)])], wm]) := by
  obtain ⟨mas, hAm, hml⟩ := ML.al hML
  rw [← hml] at hb
  refine Mx.of (by decide) (Nat.le_of_ble_eq_true rfl) (fun X hX hR hT => ?_)
  refine g_lv1 (lv1 := [(0, .ref o), (1, .int i), (2, .int x), (3, .int y)]) rfl ?_
  refine g_aload_n hX (pc := 0) dX1_entry_0 0 rfl ?_
  refine g_iload_n hX (pc := 1) dX1_entry_1 1 rfl ?_
  refine gx_callV hX (pc := 2) kX1_machineAt (mx_Q_machineAt E l hl0 o n lm lb lr (nLo P) (nNow P) mas wm i hAm (hb)) q1360 fcX1 (sp_mem (i := 0) rfl) [0, 0, 0] rfl rfl rfl (Nat.le_of_ble_eq_true rfl) (Nat.le_of_ble_eq_true rfl) (Nat.le_of_ble_eq_true rfl) (Nat.le_of_ble_eq_true rfl) (Nat.le_of_ble_eq_true rfl) dX1_entry_2 (fun C q w1 hp => ?_) (fun v w1 hp => hp.elim)
  obtain ⟨rfl, rfl⟩ := hp
  exact gx_out hX hR hT (Nat.le_of_ble_eq_true rfl) (Nat.le_of_ble_eq_true rfl) ⟨rfl, rfl⟩

set_option maxHeartbeats 4000000 in
theorem mx_Q_follows_P (E : EE) (l : Launch) (hl0 : l.stackTraces = false) (o : Nat) (n : Nat) (lm : Nat) (lb : Nat) (lr : Nat) (P : PN) (wm : va_W) (wM : va_W) (fz : va_W) (i : Int32) (x : Int32) (z : Int32) (hML : ML E fz lm (nM P) wm wM) (hb : (i < 0 ∨ ¬ i < nI (List.length (nM P)))) : Mx E l yX1_follows cX1_follows 4 (some .int) 8 1 6 123 [.ref o, .int i, .int x, .int z] [[(o, ob 0 [.ref n])], [(n, ob 1 [.ref lm, .ref lb, .ref lr, .int (nLo P), .int (nNow P)])], wm] (fun (_ : Option Value) (_ : List va_W) => False) (fun (C_ : String) (cs_ : List va_W) => C_ = "java/lang/IndexOutOfBoundsException" ∧ cs_ = [[(o, ob 0 [.ref n])], [(n, ob 1 [.ref lm, .ref lb, .ref lr, .int (nLo P), .int (nNow P)])], wm]) := by
  obtain ⟨mas, hAm, hml⟩ := ML.al hML
  rw [← hml] at hb
  refine Mx.of (by decide) (Nat.le_of_ble_eq_true rfl) (fun X hX hR hT => ?_)
  refine g_lv1 (lv1 := [(0, .ref o), (1, .int i), (2, .int x), (3, .int z)]) rfl ?_
  refine g_aload_n hX (pc := 0) dX1_follows_0 0 rfl ?_
  refine g_iload_n hX (pc := 1) dX1_follows_1 1 rfl ?_
  refine gx_callV hX (pc := 2) kX1_machineAt (mx_Q_machineAt E l hl0 o n lm lb lr (nLo P) (nNow P) mas wm i hAm (hb)) q1360 fcX1 (sp_mem (i := 0) rfl) [0, 0, 0] rfl rfl rfl (Nat.le_of_ble_eq_true rfl) (Nat.le_of_ble_eq_true rfl) (Nat.le_of_ble_eq_true rfl) (Nat.le_of_ble_eq_true rfl) (Nat.le_of_ble_eq_true rfl) dX1_follows_2 (fun C q w1 hp => ?_) (fun v w1 hp => hp.elim)
  obtain ⟨rfl, rfl⟩ := hp
  exact gx_out hX hR hT (Nat.le_of_ble_eq_true rfl) (Nat.le_of_ble_eq_true rfl) ⟨rfl, rfl⟩

set_option maxHeartbeats 4000000 in
theorem mx_Q_stored_P (E : EE) (l : Launch) (hl0 : l.stackTraces = false) (o : Nat) (n : Nat) (lm : Nat) (lb : Nat) (lr : Nat) (P : PN) (wm : va_W) (wM : va_W) (fz : va_W) (i : Int32) (x : Int32) (y : Int32) (hML : ML E fz lm (nM P) wm wM) (hb : (i < 0 ∨ ¬ i < nI (List.length (nM P)))) : Mx E l yX1_stored cX1_stored 5 (some .int) 8 1 6 123 [.ref o, .int i, .int x, .int y] [[(o, ob 0 [.ref n])], [(n, ob 1 [.ref lm, .ref lb, .ref lr, .int (nLo P), .int (nNow P)])], wm] (fun (_ : Option Value) (_ : List va_W) => False) (fun (C_ : String) (cs_ : List va_W) => C_ = "java/lang/IndexOutOfBoundsException" ∧ cs_ = [[(o, ob 0 [.ref n])], [(n, ob 1 [.ref lm, .ref lb, .ref lr, .int (nLo P), .int (nNow P)])], wm]) := by
  obtain ⟨mas, hAm, hml⟩ := ML.al hML
  rw [← hml] at hb
  refine Mx.of (by decide) (Nat.le_of_ble_eq_true rfl) (fun X hX hR hT => ?_)
  refine g_lv1 (lv1 := [(0, .ref o), (1, .int i), (2, .int x), (3, .int y)]) rfl ?_
  refine g_aload_n hX (pc := 0) dX1_stored_0 0 rfl ?_
  refine g_iload_n hX (pc := 1) dX1_stored_1 1 rfl ?_
  refine gx_callV hX (pc := 2) kX1_machineAt (mx_Q_machineAt E l hl0 o n lm lb lr (nLo P) (nNow P) mas wm i hAm (hb)) q1360 fcX1 (sp_mem (i := 0) rfl) [0, 0, 0] rfl rfl rfl (Nat.le_of_ble_eq_true rfl) (Nat.le_of_ble_eq_true rfl) (Nat.le_of_ble_eq_true rfl) (Nat.le_of_ble_eq_true rfl) (Nat.le_of_ble_eq_true rfl) dX1_stored_2 (fun C q w1 hp => ?_) (fun v w1 hp => hp.elim)
  obtain ⟨rfl, rfl⟩ := hp
  exact gx_out hX hR hT (Nat.le_of_ble_eq_true rfl) (Nat.le_of_ble_eq_true rfl) ⟨rfl, rfl⟩

set_option maxHeartbeats 4000000 in
theorem mx_Q_wouldLead_P (E : EE) (l : Launch) (hl0 : l.stackTraces = false) (o : Nat) (n : Nat) (lm : Nat) (lb : Nat) (lr : Nat) (P : PN) (wm : va_W) (wM : va_W) (fz : va_W) (i : Int32) (hML : ML E fz lm (nM P) wm wM) (hb : (i < 0 ∨ ¬ i < nI (List.length (nM P)))) : Mx E l yX1_wouldLead cX1_wouldLead 2 (some .boolean) 8 1 6 123 [.ref o, .int i] [[(o, ob 0 [.ref n])], [(n, ob 1 [.ref lm, .ref lb, .ref lr, .int (nLo P), .int (nNow P)])], wm] (fun (_ : Option Value) (_ : List va_W) => False) (fun (C_ : String) (cs_ : List va_W) => C_ = "java/lang/IndexOutOfBoundsException" ∧ cs_ = [[(o, ob 0 [.ref n])], [(n, ob 1 [.ref lm, .ref lb, .ref lr, .int (nLo P), .int (nNow P)])], wm]) := by
  obtain ⟨mas, hAm, hml⟩ := ML.al hML
  rw [← hml] at hb
  refine Mx.of (by decide) (Nat.le_of_ble_eq_true rfl) (fun X hX hR hT => ?_)
  refine g_lv1 (lv1 := [(0, .ref o), (1, .int i)]) rfl ?_
  refine g_aload_n hX (pc := 0) dX1_wouldLead_0 0 rfl ?_
  refine g_iload_n hX (pc := 1) dX1_wouldLead_1 1 rfl ?_
  refine gx_callV hX (pc := 2) kX1_machineAt (mx_Q_machineAt E l hl0 o n lm lb lr (nLo P) (nNow P) mas wm i hAm (hb)) q1360 fcX1 (sp_mem (i := 0) rfl) [0, 0, 0] rfl rfl rfl (Nat.le_of_ble_eq_true rfl) (Nat.le_of_ble_eq_true rfl) (Nat.le_of_ble_eq_true rfl) (Nat.le_of_ble_eq_true rfl) (Nat.le_of_ble_eq_true rfl) dX1_wouldLead_2 (fun C q w1 hp => ?_) (fun v w1 hp => hp.elim)
  obtain ⟨rfl, rfl⟩ := hp
  exact gx_out hX hR hT (Nat.le_of_ble_eq_true rfl) (Nat.le_of_ble_eq_true rfl) ⟨rfl, rfl⟩

set_option maxHeartbeats 4000000 in
theorem mx_Q_savedTo_P (E : EE) (l : Launch) (hl0 : l.stackTraces = false) (o : Nat) (n : Nat) (lm : Nat) (lb : Nat) (lr : Nat) (P : PN) (wm : va_W) (wM : va_W) (fz : va_W) (i : Int32) (hML : ML E fz lm (nM P) wm wM) (hb : (i < 0 ∨ ¬ i < nI (List.length (nM P)))) : Mx E l yX1_savedTo cX1_savedTo 2 (some .int) 8 1 6 123 [.ref o, .int i] [[(o, ob 0 [.ref n])], [(n, ob 1 [.ref lm, .ref lb, .ref lr, .int (nLo P), .int (nNow P)])], wm] (fun (_ : Option Value) (_ : List va_W) => False) (fun (C_ : String) (cs_ : List va_W) => C_ = "java/lang/IndexOutOfBoundsException" ∧ cs_ = [[(o, ob 0 [.ref n])], [(n, ob 1 [.ref lm, .ref lb, .ref lr, .int (nLo P), .int (nNow P)])], wm]) := by
  obtain ⟨mas, hAm, hml⟩ := ML.al hML
  rw [← hml] at hb
  refine Mx.of (by decide) (Nat.le_of_ble_eq_true rfl) (fun X hX hR hT => ?_)
  refine g_lv1 (lv1 := [(0, .ref o), (1, .int i)]) rfl ?_
  refine g_aload_n hX (pc := 0) dX1_savedTo_0 0 rfl ?_
  refine g_iload_n hX (pc := 1) dX1_savedTo_1 1 rfl ?_
  refine gx_callV hX (pc := 2) kX1_machineAt (mx_Q_machineAt E l hl0 o n lm lb lr (nLo P) (nNow P) mas wm i hAm (hb)) q1360 fcX1 (sp_mem (i := 0) rfl) [0, 0, 0] rfl rfl rfl (Nat.le_of_ble_eq_true rfl) (Nat.le_of_ble_eq_true rfl) (Nat.le_of_ble_eq_true rfl) (Nat.le_of_ble_eq_true rfl) (Nat.le_of_ble_eq_true rfl) dX1_savedTo_2 (fun C q w1 hp => ?_) (fun v w1 hp => hp.elim)
  obtain ⟨rfl, rfl⟩ := hp
  exact gx_out hX hR hT (Nat.le_of_ble_eq_true rfl) (Nat.le_of_ble_eq_true rfl) ⟨rfl, rfl⟩

set_option maxHeartbeats 4000000 in
theorem mx_Q_stand_S (E : EE) (l : Launch) (hl0 : l.stackTraces = false) (o : Nat) (n : Nat) (lm : Nat) (lb : Nat) (lr : Nat) (P : PN) (wm : va_W) (wM : va_W) (fz : va_W) (k : Nat) (hML : ML E fz lm (nM P) wm wM) (h5 : ((nM P).length ≤ 5)) (hk : (k < (nM P).length)) (hd : (mR (mAt P k) = 0)) : Mx E l yX1_stand cX1_stand 3 (some .int) 8 1 6 129 [.ref o, .int (nI k)] [[(o, ob 0 [.ref n])], [(n, ob 1 [.ref lm, .ref lb, .ref lr, .int (nLo P), .int (nNow P)])], wm, wM] (fun (_ : Option Value) (_ : List va_W) => False) (fun (C_ : String) (cs_ : List va_W) => C_ = "java/lang/IllegalStateException" ∧ cs_ = [[(o, ob 0 [.ref n])], [(n, ob 1 [.ref lm, .ref lb, .ref lr, .int (nLo P), .int (nNow P)])], wm, wM]) := by
  refine Mx.of (by decide) (Nat.le_of_ble_eq_true rfl) (fun X hX hR hT => ?_)
  refine g_lv1 (lv1 := [(0, .ref o), (1, .int (nI k))]) rfl ?_
  refine g_aload_n hX (pc := 0) dX1_stand_0 0 rfl ?_
  refine g_iload_n hX (pc := 1) dX1_stand_1 1 rfl ?_
  obtain ⟨M7, hgM7⟩ := get_ex (l := (nM P)) (i := k) (hk)
  obtain ⟨mas1, m2, hAm3, hml4, hmk5, hMI6⟩ := ML.at hML hgM7
  refine gx_callV hX (pc := 2) kX1_upAt (mx_Q_upAtS E l hl0 o n lm lb lr (nLo P) (nNow P) mas1 wm k m2 M7 fz wM hAm3 hMI6 (hmk5) (by omega) (by rw [← hd, mAt_get hgM7])) q1380 fcX1 (sp_mem (i := 0) rfl) [0, 0, 0, 0] rfl rfl rfl (Nat.le_of_ble_eq_true rfl) (Nat.le_of_ble_eq_true rfl) (Nat.le_of_ble_eq_true rfl) (Nat.le_of_ble_eq_true rfl) (Nat.le_of_ble_eq_true rfl) dX1_stand_2 (fun C q w1 hp => ?_) (fun v w1 hp => hp.elim)
  obtain ⟨rfl, rfl⟩ := hp
  exact gx_out hX hR hT (Nat.le_of_ble_eq_true rfl) (Nat.le_of_ble_eq_true rfl) ⟨rfl, rfl⟩

set_option maxHeartbeats 4000000 in
theorem mx_Q_crash_S (E : EE) (l : Launch) (hl0 : l.stackTraces = false) (o : Nat) (n : Nat) (lm : Nat) (lb : Nat) (lr : Nat) (P : PN) (wm : va_W) (wM : va_W) (fz : va_W) (k : Nat) (hML : ML E fz lm (nM P) wm wM) (h5 : ((nM P).length ≤ 5)) (hk : (k < (nM P).length)) (hd : (mR (mAt P k) = 0)) : Mx E l yX1_crash cX1_crash 4 (some .int) 8 1 6 129 [.ref o, .int (nI k)] [[(o, ob 0 [.ref n])], [(n, ob 1 [.ref lm, .ref lb, .ref lr, .int (nLo P), .int (nNow P)])], wm, wM] (fun (_ : Option Value) (_ : List va_W) => False) (fun (C_ : String) (cs_ : List va_W) => C_ = "java/lang/IllegalStateException" ∧ cs_ = [[(o, ob 0 [.ref n])], [(n, ob 1 [.ref lm, .ref lb, .ref lr, .int (nLo P), .int (nNow P)])], wm, wM]) := by
  refine Mx.of (by decide) (Nat.le_of_ble_eq_true rfl) (fun X hX hR hT => ?_)
  refine g_lv1 (lv1 := [(0, .ref o), (1, .int (nI k))]) rfl ?_
  refine g_aload_n hX (pc := 0) dX1_crash_0 0 rfl ?_
  refine g_iload_n hX (pc := 1) dX1_crash_1 1 rfl ?_
  obtain ⟨M7, hgM7⟩ := get_ex (l := (nM P)) (i := k) (hk)
  obtain ⟨mas1, m2, hAm3, hml4, hmk5, hMI6⟩ := ML.at hML hgM7
  refine gx_callV hX (pc := 2) kX1_upAt (mx_Q_upAtS E l hl0 o n lm lb lr (nLo P) (nNow P) mas1 wm k m2 M7 fz wM hAm3 hMI6 (hmk5) (by omega) (by rw [← hd, mAt_get hgM7])) q1380 fcX1 (sp_mem (i := 0) rfl) [0, 0, 0, 0] rfl rfl rfl (Nat.le_of_ble_eq_true rfl) (Nat.le_of_ble_eq_true rfl) (Nat.le_of_ble_eq_true rfl) (Nat.le_of_ble_eq_true rfl) (Nat.le_of_ble_eq_true rfl) dX1_crash_2 (fun C q w1 hp => ?_) (fun v w1 hp => hp.elim)
  obtain ⟨rfl, rfl⟩ := hp
  exact gx_out hX hR hT (Nat.le_of_ble_eq_true rfl) (Nat.le_of_ble_eq_true rfl) ⟨rfl, rfl⟩

set_option maxHeartbeats 4000000 in
theorem mx_Q_save_S (E : EE) (l : Launch) (hl0 : l.stackTraces = false) (o : Nat) (n : Nat) (lm : Nat) (lb : Nat) (lr : Nat) (P : PN) (wm : va_W) (wM : va_W) (fz : va_W) (k : Nat) (hML : ML E fz lm (nM P) wm wM) (h5 : ((nM P).length ≤ 5)) (hk : (k < (nM P).length)) (hd : (mR (mAt P k) = 0)) : Mx E l yX1_save cX1_save 3 (some .int) 8 1 6 129 [.ref o, .int (nI k)] [[(o, ob 0 [.ref n])], [(n, ob 1 [.ref lm, .ref lb, .ref lr, .int (nLo P), .int (nNow P)])], wm, wM] (fun (_ : Option Value) (_ : List va_W) => False) (fun (C_ : String) (cs_ : List va_W) => C_ = "java/lang/IllegalStateException" ∧ cs_ = [[(o, ob 0 [.ref n])], [(n, ob 1 [.ref lm, .ref lb, .ref lr, .int (nLo P), .int (nNow P)])], wm, wM]) := by
  refine Mx.of (by decide) (Nat.le_of_ble_eq_true rfl) (fun X hX hR hT => ?_)
  refine g_lv1 (lv1 := [(0, .ref o), (1, .int (nI k))]) rfl ?_
  refine g_aload_n hX (pc := 0) dX1_save_0 0 rfl ?_
  refine g_iload_n hX (pc := 1) dX1_save_1 1 rfl ?_
  obtain ⟨M7, hgM7⟩ := get_ex (l := (nM P)) (i := k) (hk)
  obtain ⟨mas1, m2, hAm3, hml4, hmk5, hMI6⟩ := ML.at hML hgM7
  refine gx_callV hX (pc := 2) kX1_upAt (mx_Q_upAtS E l hl0 o n lm lb lr (nLo P) (nNow P) mas1 wm k m2 M7 fz wM hAm3 hMI6 (hmk5) (by omega) (by rw [← hd, mAt_get hgM7])) q1380 fcX1 (sp_mem (i := 0) rfl) [0, 0, 0, 0] rfl rfl rfl (Nat.le_of_ble_eq_true rfl) (Nat.le_of_ble_eq_true rfl) (Nat.le_of_ble_eq_true rfl) (Nat.le_of_ble_eq_true rfl) (Nat.le_of_ble_eq_true rfl) dX1_save_2 (fun C q w1 hp => ?_) (fun v w1 hp => hp.elim)
  obtain ⟨rfl, rfl⟩ := hp
  exact gx_out hX hR hT (Nat.le_of_ble_eq_true rfl) (Nat.le_of_ble_eq_true rfl) ⟨rfl, rfl⟩

set_option maxHeartbeats 4000000 in
theorem mx_Q_compact_S (E : EE) (l : Launch) (hl0 : l.stackTraces = false) (o : Nat) (n : Nat) (lm : Nat) (lb : Nat) (lr : Nat) (P : PN) (wm : va_W) (wM : va_W) (fz : va_W) (k : Nat) (hML : ML E fz lm (nM P) wm wM) (h5 : ((nM P).length ≤ 5)) (hk : (k < (nM P).length)) (hd : (mR (mAt P k) = 0)) : Mx E l yX1_compact cX1_compact 3 (some .int) 8 1 6 129 [.ref o, .int (nI k)] [[(o, ob 0 [.ref n])], [(n, ob 1 [.ref lm, .ref lb, .ref lr, .int (nLo P), .int (nNow P)])], wm, wM] (fun (_ : Option Value) (_ : List va_W) => False) (fun (C_ : String) (cs_ : List va_W) => C_ = "java/lang/IllegalStateException" ∧ cs_ = [[(o, ob 0 [.ref n])], [(n, ob 1 [.ref lm, .ref lb, .ref lr, .int (nLo P), .int (nNow P)])], wm, wM]) := by
  refine Mx.of (by decide) (Nat.le_of_ble_eq_true rfl) (fun X hX hR hT => ?_)
  refine g_lv1 (lv1 := [(0, .ref o), (1, .int (nI k))]) rfl ?_
  refine g_aload_n hX (pc := 0) dX1_compact_0 0 rfl ?_
  refine g_iload_n hX (pc := 1) dX1_compact_1 1 rfl ?_
  obtain ⟨M7, hgM7⟩ := get_ex (l := (nM P)) (i := k) (hk)
  obtain ⟨mas1, m2, hAm3, hml4, hmk5, hMI6⟩ := ML.at hML hgM7
  refine gx_callV hX (pc := 2) kX1_upAt (mx_Q_upAtS E l hl0 o n lm lb lr (nLo P) (nNow P) mas1 wm k m2 M7 fz wM hAm3 hMI6 (hmk5) (by omega) (by rw [← hd, mAt_get hgM7])) q1380 fcX1 (sp_mem (i := 0) rfl) [0, 0, 0, 0] rfl rfl rfl (Nat.le_of_ble_eq_true rfl) (Nat.le_of_ble_eq_true rfl) (Nat.le_of_ble_eq_true rfl) (Nat.le_of_ble_eq_true rfl) (Nat.le_of_ble_eq_true rfl) dX1_compact_2 (fun C q w1 hp => ?_) (fun v w1 hp => hp.elim)
  obtain ⟨rfl, rfl⟩ := hp
  exact gx_out hX hR hT (Nat.le_of_ble_eq_true rfl) (Nat.le_of_ble_eq_true rfl) ⟨rfl, rfl⟩

set_option maxHeartbeats 4000000 in
theorem mx_Q_stand_L (E : EE) (l : Launch) (hl0 : l.stackTraces = false) (o : Nat) (n : Nat) (lm : Nat) (lb : Nat) (lr : Nat) (P : PN) (wm : va_W) (wM : va_W) (fz : va_W) (k : Nat) (hML : ML E fz lm (nM P) wm wM) (h5 : ((nM P).length ≤ 5)) (hk : (k < (nM P).length)) (hu : (¬ mR (mAt P k) = 0)) (h3 : (mR (mAt P k) = 3)) : Mx E l yX1_stand cX1_stand 3 (some .int) 7 1 6 129 [.ref o, .int (nI k)] [[(o, ob 0 [.ref n])], [(n, ob 1 [.ref lm, .ref lb, .ref lr, .int (nLo P), .int (nNow P)])], wm, wM] (fun (_ : Option Value) (_ : List va_W) => False) (fun (C_ : String) (cs_ : List va_W) => C_ = "java/lang/IllegalStateException" ∧ cs_ = [[(o, ob 0 [.ref n])], [(n, ob 1 [.ref lm, .ref lb, .ref lr, .int (nLo P), .int (nNow P)])], wm, wM]) := by
  refine Mx.of (by decide) (Nat.le_of_ble_eq_true rfl) (fun X hX hR hT => ?_)
  refine g_lv1 (lv1 := [(0, .ref o), (1, .int (nI k))]) rfl ?_
  refine g_aload_n hX (pc := 0) dX1_stand_0 0 rfl ?_
  refine g_iload_n hX (pc := 1) dX1_stand_1 1 rfl ?_
  obtain ⟨M7, hgM7⟩ := get_ex (l := (nM P)) (i := k) (hk)
  obtain ⟨mas1, m2, hAm3, hml4, hmk5, hMI6⟩ := ML.at hML hgM7
  obtain ⟨rn8, rk9, rl10, rs11, rst12, la13, sp14, lb15, sp216, fn17, fk18, m019, arr20, m121, arr122, h123, h224, h325, h426, h527, h628, h729, hn30⟩ := hMI6.peek
  refine g_callV hX (pc := 2) kX1_upAt (mt_Q_upAtI E l o n lm lb lr (nLo P) (nNow P) mas1 wm k m2 M7 fz wM hAm3 hMI6 (hmk5) (by omega) (by rw [← mAt_get hgM7]; exact hu)) q1380 fcX1 (sp_mem (i := 0) rfl) [0, 0, 0, 0] rfl rfl rfl (Nat.le_of_ble_eq_true rfl) (Nat.le_of_ble_eq_true rfl) (Nat.le_of_ble_eq_true rfl) (Nat.le_of_ble_eq_true rfl) (Nat.le_of_ble_eq_true rfl) dX1_stand_2 (fun v w1 hp => ?_)
  obtain ⟨rfl, rfl⟩ := hp
  refine g_nrm (cs1 := [[(o, ob 0 [.ref n])], [(n, ob 1 [.ref lm, .ref lb, .ref lr, .int (nLo P), .int (nNow P)])], wm, wM]) (st1 := [.ref m2]) rfl rfl ?_
  refine g_astore_n hX (pc := 5) (lv1 := [(2, .ref m2), (0, .ref o), (1, .int (nI k))]) dX1_stand_5 (by decide) rfl ?_
  refine g_aload_n hX (pc := 6) dX1_stand_6 0 rfl ?_
  refine g_callV hX (pc := 7) kX9_isLeader (mt_Machine_isLeaderI E l m2 M7 fz wM hMI6) q1036 fcX9 (sp_in 3 rfl h123) [3] rfl rfl rfl (Nat.le_of_ble_eq_true rfl) (Nat.le_of_ble_eq_true rfl) (Nat.le_of_ble_eq_true rfl) (Nat.le_of_ble_eq_true rfl) (Nat.le_of_ble_eq_true rfl) dX1_stand_7 (fun v w1 hp => ?_)
  obtain ⟨rfl, rfl⟩ := hp
  refine g_nrm (cs1 := [wM, [(o, ob 0 [.ref n])], [(n, ob 1 [.ref lm, .ref lb, .ref lr, .int (nLo P), .int (nNow P)])], wm]) (st1 := [.int (if mR M7 = 3 then 1 else 0)]) rfl rfl ?_
  refine g_val (v := if mR M7 = 3 then 0 else 1) (pcJ := 18) (st1 := []) (fun hj31 => ?_) ?_
  · refine g_if_ne hX (pc := 10) (tgt := 17) dX1_stand_10 rfl (fun c32_ => ?_) (fun c32_ => ?_)
    · have c32 := z10n.mp c32_
      refine g_iconst hX (pc := 17) (v := 0) dX1_stand_17 (by decide) ?_
      exact hj31 _ (by rw [if_pos c32])
    · have c32 := z10.mp c32_
      refine g_iconst hX (pc := 13) (v := 1) dX1_stand_13 (by decide) ?_
      refine g_goto hX (pc := 14) (tgt := 18) dX1_stand_14 rfl ?_
      exact hj31 _ (by rw [if_neg c32])
  refine g_eqi 0 (if_pos (by rw [← mAt_get hgM7]; exact h3)) ?_
  refine gx_callS hX (pc := 18) kX1_checkState (mx_checkState E l hl0 ) q1268 [] rfl rfl rfl (Nat.le_of_ble_eq_true rfl) (Nat.le_of_ble_eq_true rfl) (Nat.le_of_ble_eq_true rfl) (Nat.le_of_ble_eq_true rfl) (Nat.le_of_ble_eq_true rfl) dX1_stand_18 (fun C q w1 hp => ?_) (fun v w1 hp => hp.elim)
  obtain ⟨rfl, rfl⟩ := hp
  refine gx_pk [1, 1, 1, 0] rfl ?_
  exact gx_out hX hR hT (Nat.le_of_ble_eq_true rfl) (Nat.le_of_ble_eq_true rfl) ⟨rfl, rfl⟩

set_option maxHeartbeats 4000000 in
theorem mx_Q_beat_S (E : EE) (l : Launch) (hl0 : l.stackTraces = false) (o : Nat) (n : Nat) (lm : Nat) (lb : Nat) (lr : Nat) (P : PN) (wm : va_W) (wM : va_W) (fz : va_W) (k : Nat) (hML : ML E fz lm (nM P) wm wM) (h5 : ((nM P).length ≤ 5)) (hk : (k < (nM P).length)) (h3 : (¬ mR (mAt P k) = 3)) : Mx E l yX1_beat cX1_beat 3 (some .int) 7 1 6 107 [.ref o, .int (nI k)] [[(o, ob 0 [.ref n])], [(n, ob 1 [.ref lm, .ref lb, .ref lr, .int (nLo P), .int (nNow P)])], wm, wM] (fun (_ : Option Value) (_ : List va_W) => False) (fun (C_ : String) (cs_ : List va_W) => C_ = "java/lang/IllegalStateException" ∧ cs_ = [[(o, ob 0 [.ref n])], [(n, ob 1 [.ref lm, .ref lb, .ref lr, .int (nLo P), .int (nNow P)])], wm, wM]) := by
  refine Mx.of (by decide) (Nat.le_of_ble_eq_true rfl) (fun X hX hR hT => ?_)
  refine g_lv1 (lv1 := [(0, .ref o), (1, .int (nI k))]) rfl ?_
  refine g_aload_n hX (pc := 0) dX1_beat_0 0 rfl ?_
  refine g_iload_n hX (pc := 1) dX1_beat_1 1 rfl ?_
  obtain ⟨M7, hgM7⟩ := get_ex (l := (nM P)) (i := k) (hk)
  obtain ⟨mas1, m2, hAm3, hml4, hmk5, hMI6⟩ := ML.at hML hgM7
  obtain ⟨rn8, rk9, rl10, rs11, rst12, la13, sp14, lb15, sp216, fn17, fk18, m019, arr20, m121, arr122, h123, h224, h325, h426, h527, h628, h729, hn30⟩ := hMI6.peek
  refine g_callV hX (pc := 2) kX1_machineAt (mt_Q_machineAtI E l o n lm lb lr (nLo P) (nNow P) mas1 wm k m2 M7 fz wM hAm3 hMI6 (hmk5) (by omega)) q1360 fcX1 (sp_mem (i := 0) rfl) [0, 0, 0, 0] rfl rfl rfl (Nat.le_of_ble_eq_true rfl) (Nat.le_of_ble_eq_true rfl) (Nat.le_of_ble_eq_true rfl) (Nat.le_of_ble_eq_true rfl) (Nat.le_of_ble_eq_true rfl) dX1_beat_2 (fun v w1 hp => ?_)
  obtain ⟨rfl, rfl⟩ := hp
  refine g_nrm (cs1 := [[(o, ob 0 [.ref n])], [(n, ob 1 [.ref lm, .ref lb, .ref lr, .int (nLo P), .int (nNow P)])], wm, wM]) (st1 := [.ref m2]) rfl rfl ?_
  refine g_astore_n hX (pc := 5) (lv1 := [(2, .ref m2), (0, .ref o), (1, .int (nI k))]) dX1_beat_5 (by decide) rfl ?_
  refine g_aload_n hX (pc := 6) dX1_beat_6 0 rfl ?_
  refine g_callV hX (pc := 7) kX9_isLeader (mt_Machine_isLeaderI E l m2 M7 fz wM hMI6) q1036 fcX9 (sp_in 3 rfl h123) [3] rfl rfl rfl (Nat.le_of_ble_eq_true rfl) (Nat.le_of_ble_eq_true rfl) (Nat.le_of_ble_eq_true rfl) (Nat.le_of_ble_eq_true rfl) (Nat.le_of_ble_eq_true rfl) dX1_beat_7 (fun v w1 hp => ?_)
  obtain ⟨rfl, rfl⟩ := hp
  refine g_nrm (cs1 := [wM, [(o, ob 0 [.ref n])], [(n, ob 1 [.ref lm, .ref lb, .ref lr, .int (nLo P), .int (nNow P)])], wm]) (st1 := [.int (if mR M7 = 3 then 1 else 0)]) rfl rfl ?_
  refine g_eqi 0 (if_neg (by rw [← mAt_get hgM7]; exact h3)) ?_
  refine gx_callS hX (pc := 10) kX1_checkState (mx_checkState E l hl0 ) q1268 [] rfl rfl rfl (Nat.le_of_ble_eq_true rfl) (Nat.le_of_ble_eq_true rfl) (Nat.le_of_ble_eq_true rfl) (Nat.le_of_ble_eq_true rfl) (Nat.le_of_ble_eq_true rfl) dX1_beat_10 (fun C q w1 hp => ?_) (fun v w1 hp => hp.elim)
  obtain ⟨rfl, rfl⟩ := hp
  refine gx_pk [1, 1, 1, 0] rfl ?_
  exact gx_out hX hR hT (Nat.le_of_ble_eq_true rfl) (Nat.le_of_ble_eq_true rfl) ⟨rfl, rfl⟩

set_option maxHeartbeats 4000000 in
theorem mx_Q_start_S (E : EE) (l : Launch) (hl0 : l.stackTraces = false) (o : Nat) (n : Nat) (lm : Nat) (lb : Nat) (lr : Nat) (P : PN) (wm : va_W) (wM : va_W) (fz : va_W) (k : Nat) (hML : ML E fz lm (nM P) wm wM) (h5 : ((nM P).length ≤ 5)) (hk : (k < (nM P).length)) (hu : (¬ mR (mAt P k) = 0)) : Mx E l yX1_start cX1_start 3 (some .int) 7 1 6 107 [.ref o, .int (nI k)] [[(o, ob 0 [.ref n])], [(n, ob 1 [.ref lm, .ref lb, .ref lr, .int (nLo P), .int (nNow P)])], wm, wM] (fun (_ : Option Value) (_ : List va_W) => False) (fun (C_ : String) (cs_ : List va_W) => C_ = "java/lang/IllegalStateException" ∧ cs_ = [[(o, ob 0 [.ref n])], [(n, ob 1 [.ref lm, .ref lb, .ref lr, .int (nLo P), .int (nNow P)])], wm, wM]) := by
  refine Mx.of (by decide) (Nat.le_of_ble_eq_true rfl) (fun X hX hR hT => ?_)
  refine g_lv1 (lv1 := [(0, .ref o), (1, .int (nI k))]) rfl ?_
  refine g_aload_n hX (pc := 0) dX1_start_0 0 rfl ?_
  refine g_iload_n hX (pc := 1) dX1_start_1 1 rfl ?_
  obtain ⟨M7, hgM7⟩ := get_ex (l := (nM P)) (i := k) (hk)
  obtain ⟨mas1, m2, hAm3, hml4, hmk5, hMI6⟩ := ML.at hML hgM7
  obtain ⟨rn8, rk9, rl10, rs11, rst12, la13, sp14, lb15, sp216, fn17, fk18, m019, arr20, m121, arr122, h123, h224, h325, h426, h527, h628, h729, hn30⟩ := hMI6.peek
  refine g_callV hX (pc := 2) kX1_machineAt (mt_Q_machineAtI E l o n lm lb lr (nLo P) (nNow P) mas1 wm k m2 M7 fz wM hAm3 hMI6 (hmk5) (by omega)) q1360 fcX1 (sp_mem (i := 0) rfl) [0, 0, 0, 0] rfl rfl rfl (Nat.le_of_ble_eq_true rfl) (Nat.le_of_ble_eq_true rfl) (Nat.le_of_ble_eq_true rfl) (Nat.le_of_ble_eq_true rfl) (Nat.le_of_ble_eq_true rfl) dX1_start_2 (fun v w1 hp => ?_)
  obtain ⟨rfl, rfl⟩ := hp
  refine g_nrm (cs1 := [[(o, ob 0 [.ref n])], [(n, ob 1 [.ref lm, .ref lb, .ref lr, .int (nLo P), .int (nNow P)])], wm, wM]) (st1 := [.ref m2]) rfl rfl ?_
  refine g_astore_n hX (pc := 5) (lv1 := [(2, .ref m2), (0, .ref o), (1, .int (nI k))]) dX1_start_5 (by decide) rfl ?_
  refine g_aload_n hX (pc := 6) dX1_start_6 0 rfl ?_
  refine g_callV hX (pc := 7) kX9_isUp (mt_Machine_isUpI E l m2 M7 fz wM hMI6) q1035 fcX9 (sp_in 3 rfl h123) [3] rfl rfl rfl (Nat.le_of_ble_eq_true rfl) (Nat.le_of_ble_eq_true rfl) (Nat.le_of_ble_eq_true rfl) (Nat.le_of_ble_eq_true rfl) (Nat.le_of_ble_eq_true rfl) dX1_start_7 (fun v w1 hp => ?_)
  obtain ⟨rfl, rfl⟩ := hp
  refine g_nrm (cs1 := [wM, [(o, ob 0 [.ref n])], [(n, ob 1 [.ref lm, .ref lb, .ref lr, .int (nLo P), .int (nNow P)])], wm]) (st1 := [.int (if mR M7 = 0 then 0 else 1)]) rfl rfl ?_
  refine g_val (v := if mR M7 = 0 then 1 else 0) (pcJ := 18) (st1 := []) (fun hj31 => ?_) ?_
  · refine g_if_ne hX (pc := 10) (tgt := 17) dX1_start_10 rfl (fun c32_ => ?_) (fun c32_ => ?_)
    · have c32 := z01n.mp c32_
      refine g_iconst hX (pc := 17) (v := 0) dX1_start_17 (by decide) ?_
      exact hj31 _ (by rw [if_neg c32])
    · have c32 := z01.mp c32_
      refine g_iconst hX (pc := 13) (v := 1) dX1_start_13 (by decide) ?_
      refine g_goto hX (pc := 14) (tgt := 18) dX1_start_14 rfl ?_
      exact hj31 _ (by rw [if_pos c32])
  refine g_eqi 0 (if_neg (by rw [← mAt_get hgM7]; exact hu)) ?_
  refine gx_callS hX (pc := 18) kX1_checkState (mx_checkState E l hl0 ) q1268 [] rfl rfl rfl (Nat.le_of_ble_eq_true rfl) (Nat.le_of_ble_eq_true rfl) (Nat.le_of_ble_eq_true rfl) (Nat.le_of_ble_eq_true rfl) (Nat.le_of_ble_eq_true rfl) dX1_start_18 (fun C q w1 hp => ?_) (fun v w1 hp => hp.elim)
  obtain ⟨rfl, rfl⟩ := hp
  refine gx_pk [1, 1, 1, 0] rfl ?_
  exact gx_out hX hR hT (Nat.le_of_ble_eq_true rfl) (Nat.le_of_ble_eq_true rfl) ⟨rfl, rfl⟩

set_option maxHeartbeats 4000000 in
theorem mx_Q_deliver_P (E : EE) (l : Launch) (hl0 : l.stackTraces = false) (o : Nat) (n : Nat) (lm : Nat) (lb : Nat) (lr : Nat) (P : PN) (wb : va_W) (fz : va_W) (i : Int32) (hB : BL E fz lb (nB P) wb) (hb : (i < 0 ∨ ¬ i < nI (List.length (nB P)))) : Mx E l yX1_deliver cX1_deliver 2 (some .int) 8 1 6 123 [.ref o, .int i] [[(o, ob 0 [.ref n])], [(n, ob 1 [.ref lm, .ref lb, .ref lr, .int (nLo P), .int (nNow P)])], wb] (fun (_ : Option Value) (_ : List va_W) => False) (fun (C_ : String) (cs_ : List va_W) => C_ = "java/lang/IndexOutOfBoundsException" ∧ cs_ = [[(o, ob 0 [.ref n])], [(n, ob 1 [.ref lm, .ref lb, .ref lr, .int (nLo P), .int (nNow P)])], wb]) := by
  obtain ⟨bas, hAb, hbl⟩ := BL.al hB
  rw [← hbl] at hb
  refine Mx.of (by decide) (Nat.le_of_ble_eq_true rfl) (fun X hX hR hT => ?_)
  refine g_lv1 (lv1 := [(0, .ref o), (1, .int i)]) rfl ?_
  refine g_aload_n hX (pc := 0) dX1_deliver_0 0 rfl ?_
  refine g_iload_n hX (pc := 1) dX1_deliver_1 1 rfl ?_
  refine gx_callV hX (pc := 2) kX1_messageAt (mx_Q_messageAt E l hl0 o n lm lb lr (nLo P) (nNow P) bas wb i hAb (hb)) q1400 fcX1 (sp_mem (i := 0) rfl) [0, 0, 0] rfl rfl rfl (Nat.le_of_ble_eq_true rfl) (Nat.le_of_ble_eq_true rfl) (Nat.le_of_ble_eq_true rfl) (Nat.le_of_ble_eq_true rfl) (Nat.le_of_ble_eq_true rfl) dX1_deliver_2 (fun C q w1 hp => ?_) (fun v w1 hp => hp.elim)
  obtain ⟨rfl, rfl⟩ := hp
  exact gx_out hX hR hT (Nat.le_of_ble_eq_true rfl) (Nat.le_of_ble_eq_true rfl) ⟨rfl, rfl⟩

set_option maxHeartbeats 4000000 in
theorem mx_Q_drop_P (E : EE) (l : Launch) (hl0 : l.stackTraces = false) (o : Nat) (n : Nat) (lm : Nat) (lb : Nat) (lr : Nat) (P : PN) (wb : va_W) (fz : va_W) (i : Int32) (hB : BL E fz lb (nB P) wb) (hb : (i < 0 ∨ ¬ i < nI (List.length (nB P)))) : Mx E l yX1_drop cX1_drop 3 (some .int) 8 1 6 123 [.ref o, .int i] [[(o, ob 0 [.ref n])], [(n, ob 1 [.ref lm, .ref lb, .ref lr, .int (nLo P), .int (nNow P)])], wb] (fun (_ : Option Value) (_ : List va_W) => False) (fun (C_ : String) (cs_ : List va_W) => C_ = "java/lang/IndexOutOfBoundsException" ∧ cs_ = [[(o, ob 0 [.ref n])], [(n, ob 1 [.ref lm, .ref lb, .ref lr, .int (nLo P), .int (nNow P)])], wb]) := by
  obtain ⟨bas, hAb, hbl⟩ := BL.al hB
  rw [← hbl] at hb
  refine Mx.of (by decide) (Nat.le_of_ble_eq_true rfl) (fun X hX hR hT => ?_)
  refine g_lv1 (lv1 := [(0, .ref o), (1, .int i)]) rfl ?_
  refine g_aload_n hX (pc := 0) dX1_drop_0 0 rfl ?_
  refine g_iload_n hX (pc := 1) dX1_drop_1 1 rfl ?_
  refine gx_callV hX (pc := 2) kX1_messageAt (mx_Q_messageAt E l hl0 o n lm lb lr (nLo P) (nNow P) bas wb i hAb (hb)) q1400 fcX1 (sp_mem (i := 0) rfl) [0, 0, 0] rfl rfl rfl (Nat.le_of_ble_eq_true rfl) (Nat.le_of_ble_eq_true rfl) (Nat.le_of_ble_eq_true rfl) (Nat.le_of_ble_eq_true rfl) (Nat.le_of_ble_eq_true rfl) dX1_drop_2 (fun C q w1 hp => ?_) (fun v w1 hp => hp.elim)
  obtain ⟨rfl, rfl⟩ := hp
  exact gx_out hX hR hT (Nat.le_of_ble_eq_true rfl) (Nat.le_of_ble_eq_true rfl) ⟨rfl, rfl⟩

set_option maxHeartbeats 4000000 in
theorem mx_Q_twice_P (E : EE) (l : Launch) (hl0 : l.stackTraces = false) (o : Nat) (n : Nat) (lm : Nat) (lb : Nat) (lr : Nat) (P : PN) (wb : va_W) (fz : va_W) (i : Int32) (hB : BL E fz lb (nB P) wb) (hb : (i < 0 ∨ ¬ i < nI (List.length (nB P)))) : Mx E l yX1_twice cX1_twice 3 (some .int) 8 1 6 123 [.ref o, .int i] [[(o, ob 0 [.ref n])], [(n, ob 1 [.ref lm, .ref lb, .ref lr, .int (nLo P), .int (nNow P)])], wb] (fun (_ : Option Value) (_ : List va_W) => False) (fun (C_ : String) (cs_ : List va_W) => C_ = "java/lang/IndexOutOfBoundsException" ∧ cs_ = [[(o, ob 0 [.ref n])], [(n, ob 1 [.ref lm, .ref lb, .ref lr, .int (nLo P), .int (nNow P)])], wb]) := by
  obtain ⟨bas, hAb, hbl⟩ := BL.al hB
  rw [← hbl] at hb
  refine Mx.of (by decide) (Nat.le_of_ble_eq_true rfl) (fun X hX hR hT => ?_)
  refine g_lv1 (lv1 := [(0, .ref o), (1, .int i)]) rfl ?_
  refine g_aload_n hX (pc := 0) dX1_twice_0 0 rfl ?_
  refine g_iload_n hX (pc := 1) dX1_twice_1 1 rfl ?_
  refine gx_callV hX (pc := 2) kX1_messageAt (mx_Q_messageAt E l hl0 o n lm lb lr (nLo P) (nNow P) bas wb i hAb (hb)) q1400 fcX1 (sp_mem (i := 0) rfl) [0, 0, 0] rfl rfl rfl (Nat.le_of_ble_eq_true rfl) (Nat.le_of_ble_eq_true rfl) (Nat.le_of_ble_eq_true rfl) (Nat.le_of_ble_eq_true rfl) (Nat.le_of_ble_eq_true rfl) dX1_twice_2 (fun C q w1 hp => ?_) (fun v w1 hp => hp.elim)
  obtain ⟨rfl, rfl⟩ := hp
  exact gx_out hX hR hT (Nat.le_of_ble_eq_true rfl) (Nat.le_of_ble_eq_true rfl) ⟨rfl, rfl⟩

set_option maxHeartbeats 4000000 in
theorem mx_Q_message_P (E : EE) (l : Launch) (hl0 : l.stackTraces = false) (o : Nat) (n : Nat) (lm : Nat) (lb : Nat) (lr : Nat) (P : PN) (wb : va_W) (fz : va_W) (i : Int32) (x : Int32) (hB : BL E fz lb (nB P) wb) (hb : (i < 0 ∨ ¬ i < nI (List.length (nB P)))) : Mx E l yX1_message cX1_message 4 (some .int) 8 1 6 123 [.ref o, .int i, .int x] [[(o, ob 0 [.ref n])], [(n, ob 1 [.ref lm, .ref lb, .ref lr, .int (nLo P), .int (nNow P)])], wb] (fun (_ : Option Value) (_ : List va_W) => False) (fun (C_ : String) (cs_ : List va_W) => C_ = "java/lang/IndexOutOfBoundsException" ∧ cs_ = [[(o, ob 0 [.ref n])], [(n, ob 1 [.ref lm, .ref lb, .ref lr, .int (nLo P), .int (nNow P)])], wb]) := by
  obtain ⟨bas, hAb, hbl⟩ := BL.al hB
  rw [← hbl] at hb
  refine Mx.of (by decide) (Nat.le_of_ble_eq_true rfl) (fun X hX hR hT => ?_)
  refine g_lv1 (lv1 := [(0, .ref o), (1, .int i), (2, .int x)]) rfl ?_
  refine g_aload_n hX (pc := 0) dX1_message_0 0 rfl ?_
  refine g_iload_n hX (pc := 1) dX1_message_1 1 rfl ?_
  refine gx_callV hX (pc := 2) kX1_messageAt (mx_Q_messageAt E l hl0 o n lm lb lr (nLo P) (nNow P) bas wb i hAb (hb)) q1400 fcX1 (sp_mem (i := 0) rfl) [0, 0, 0] rfl rfl rfl (Nat.le_of_ble_eq_true rfl) (Nat.le_of_ble_eq_true rfl) (Nat.le_of_ble_eq_true rfl) (Nat.le_of_ble_eq_true rfl) (Nat.le_of_ble_eq_true rfl) dX1_message_2 (fun C q w1 hp => ?_) (fun v w1 hp => hp.elim)
  obtain ⟨rfl, rfl⟩ := hp
  exact gx_out hX hR hT (Nat.le_of_ble_eq_true rfl) (Nat.le_of_ble_eq_true rfl) ⟨rfl, rfl⟩

set_option maxHeartbeats 4000000 in
theorem mx_Q_deliverAll_A (E : EE) (l : Launch) (hl0 : l.stackTraces = false) (o : Nat) (n : Nat) (v : Int32) (hb : (v < 1 ∨ 60 < v)) : Mx E l yX1_deliverAll cX1_deliverAll 2 (some .int) 8 1 6 123 [.ref o, .int v] [[(o, ob 0 [.ref n])]] (fun (_ : Option Value) (_ : List va_W) => False) (fun (C_ : String) (cs_ : List va_W) => C_ = "java/lang/IllegalArgumentException" ∧ cs_ = [[(o, ob 0 [.ref n])]]) := by
  refine Mx.of (by decide) (Nat.le_of_ble_eq_true rfl) (fun X hX hR hT => ?_)
  refine g_lv1 (lv1 := [(0, .ref o), (1, .int v)]) rfl ?_
  refine g_iload_n hX (pc := 0) dX1_deliverAll_0 1 rfl ?_
  refine g_iconst hX (pc := 1) (v := 1) dX1_deliverAll_1 (by decide) ?_
  refine g_bipush hX (pc := 2) (v := 60) dX1_deliverAll_2 (by decide) ?_
  refine gx_callS hX (pc := 4) kX1_mustBeIn (mx_mustBeIn E l hl0 v 1 60 (hb)) q1308 [] rfl rfl rfl (Nat.le_of_ble_eq_true rfl) (Nat.le_of_ble_eq_true rfl) (Nat.le_of_ble_eq_true rfl) (Nat.le_of_ble_eq_true rfl) (Nat.le_of_ble_eq_true rfl) dX1_deliverAll_4 (fun C q w1 hp => ?_) (fun v w1 hp => hp.elim)
  obtain ⟨rfl, rfl⟩ := hp
  exact gx_out hX hR hT (Nat.le_of_ble_eq_true rfl) (Nat.le_of_ble_eq_true rfl) ⟨rfl, rfl⟩

set_option maxHeartbeats 4000000 in
theorem mx_Q_many_A (E : EE) (l : Launch) (hl0 : l.stackTraces = false) (o : Nat) (n : Nat) (v : Int32) (hb : (v < 0 ∨ 10 < v)) : Mx E l yX1_many cX1_many 2 (some .int) 8 1 6 123 [.ref o, .int v] [[(o, ob 0 [.ref n])]] (fun (_ : Option Value) (_ : List va_W) => False) (fun (C_ : String) (cs_ : List va_W) => C_ = "java/lang/IllegalArgumentException" ∧ cs_ = [[(o, ob 0 [.ref n])]]) := by
  refine Mx.of (by decide) (Nat.le_of_ble_eq_true rfl) (fun X hX hR hT => ?_)
  refine g_lv1 (lv1 := [(0, .ref o), (1, .int v)]) rfl ?_
  refine g_iload_n hX (pc := 0) dX1_many_0 1 rfl ?_
  refine g_iconst hX (pc := 1) (v := 0) dX1_many_1 (by decide) ?_
  refine g_bipush hX (pc := 2) (v := 10) dX1_many_2 (by decide) ?_
  refine gx_callS hX (pc := 4) kX1_mustBeIn (mx_mustBeIn E l hl0 v 0 10 (hb)) q1308 [] rfl rfl rfl (Nat.le_of_ble_eq_true rfl) (Nat.le_of_ble_eq_true rfl) (Nat.le_of_ble_eq_true rfl) (Nat.le_of_ble_eq_true rfl) (Nat.le_of_ble_eq_true rfl) dX1_many_4 (fun C q w1 hp => ?_) (fun v w1 hp => hp.elim)
  obtain ⟨rfl, rfl⟩ := hp
  exact gx_out hX hR hT (Nat.le_of_ble_eq_true rfl) (Nat.le_of_ble_eq_true rfl) ⟨rfl, rfl⟩

set_option maxHeartbeats 4000000 in
theorem mx_Q_isAsOne_P (E : EE) (l : Launch) (hl0 : l.stackTraces = false) (o : Nat) (n : Nat) (v : Int32) (hb : (v < 0 ∨ ¬ v < 4)) : Mx E l yX1_isAsOne cX1_isAsOne 2 (some .boolean) 7 1 6 102 [.ref o, .int v] [[(o, ob 0 [.ref n])]] (fun (_ : Option Value) (_ : List va_W) => False) (fun (C_ : String) (cs_ : List va_W) => C_ = "java/lang/IndexOutOfBoundsException" ∧ cs_ = [[(o, ob 0 [.ref n])]]) := by
  refine Mx.of (by decide) (Nat.le_of_ble_eq_true rfl) (fun X hX hR hT => ?_)
  refine g_lv1 (lv1 := [(0, .ref o), (1, .int v)]) rfl ?_
  refine g_iload_n hX (pc := 0) dX1_isAsOne_0 1 rfl ?_
  refine g_iconst hX (pc := 1) (v := 4) dX1_isAsOne_1 (by decide) ?_
  refine gx_callS hX (pc := 2) kX1_checkPlace (mx_checkPlace E l hl0 v 4 (hb)) q1364 [] rfl rfl rfl (Nat.le_of_ble_eq_true rfl) (Nat.le_of_ble_eq_true rfl) (Nat.le_of_ble_eq_true rfl) (Nat.le_of_ble_eq_true rfl) (Nat.le_of_ble_eq_true rfl) dX1_isAsOne_2 (fun C q w1 hp => ?_) (fun v w1 hp => hp.elim)
  obtain ⟨rfl, rfl⟩ := hp
  exact gx_out hX hR hT (Nat.le_of_ble_eq_true rfl) (Nat.le_of_ble_eq_true rfl) ⟨rfl, rfl⟩

set_option maxHeartbeats 4000000 in
theorem mx_Q_send_P (E : EE) (l : Launch) (hl0 : l.stackTraces = false) (o : Nat) (n : Nat) (lm : Nat) (lb : Nat) (lr : Nat) (P : PN) (wr : va_W) (wq : va_W) (i : Int32) (x : Int32) (hRq : RL E lr (nR P) wr wq) (hb : (i < 0 ∨ ¬ i < nI (List.length (nR P)))) : Mx E l yX1_send cX1_send 4 (some .int) 8 1 6 123 [.ref o, .int i, .int x] [[(o, ob 0 [.ref n])], [(n, ob 1 [.ref lm, .ref lb, .ref lr, .int (nLo P), .int (nNow P)])], wr] (fun (_ : Option Value) (_ : List va_W) => False) (fun (C_ : String) (cs_ : List va_W) => C_ = "java/lang/IndexOutOfBoundsException" ∧ cs_ = [[(o, ob 0 [.ref n])], [(n, ob 1 [.ref lm, .ref lb, .ref lr, .int (nLo P), .int (nNow P)])], wr]) := by
  obtain ⟨ras, hAr, hrl⟩ := RL.al hRq
  rw [← hrl] at hb
  refine Mx.of (by decide) (Nat.le_of_ble_eq_true rfl) (fun X hX hR hT => ?_)
  refine g_lv1 (lv1 := [(0, .ref o), (1, .int i), (2, .int x)]) rfl ?_
  refine g_aload_n hX (pc := 0) dX1_send_0 0 rfl ?_
  refine g_iload_n hX (pc := 1) dX1_send_1 1 rfl ?_
  refine gx_callV hX (pc := 2) kX1_requestAt (mx_Q_requestAt E l hl0 o n lm lb lr (nLo P) (nNow P) ras wr i hAr (hb)) q1437 fcX1 (sp_mem (i := 0) rfl) [0, 0, 0] rfl rfl rfl (Nat.le_of_ble_eq_true rfl) (Nat.le_of_ble_eq_true rfl) (Nat.le_of_ble_eq_true rfl) (Nat.le_of_ble_eq_true rfl) (Nat.le_of_ble_eq_true rfl) dX1_send_2 (fun C q w1 hp => ?_) (fun v w1 hp => hp.elim)
  obtain ⟨rfl, rfl⟩ := hp
  exact gx_out hX hR hT (Nat.le_of_ble_eq_true rfl) (Nat.le_of_ble_eq_true rfl) ⟨rfl, rfl⟩

set_option maxHeartbeats 4000000 in
theorem mx_Q_quick_P (E : EE) (l : Launch) (hl0 : l.stackTraces = false) (o : Nat) (n : Nat) (lm : Nat) (lb : Nat) (lr : Nat) (P : PN) (wr : va_W) (wq : va_W) (i : Int32) (x : Int32) (hRq : RL E lr (nR P) wr wq) (hb : (i < 0 ∨ ¬ i < nI (List.length (nR P)))) : Mx E l yX1_quick cX1_quick 5 (some .int) 8 1 6 123 [.ref o, .int i, .int x] [[(o, ob 0 [.ref n])], [(n, ob 1 [.ref lm, .ref lb, .ref lr, .int (nLo P), .int (nNow P)])], wr] (fun (_ : Option Value) (_ : List va_W) => False) (fun (C_ : String) (cs_ : List va_W) => C_ = "java/lang/IndexOutOfBoundsException" ∧ cs_ = [[(o, ob 0 [.ref n])], [(n, ob 1 [.ref lm, .ref lb, .ref lr, .int (nLo P), .int (nNow P)])], wr]) := by
  obtain ⟨ras, hAr, hrl⟩ := RL.al hRq
  rw [← hrl] at hb
  refine Mx.of (by decide) (Nat.le_of_ble_eq_true rfl) (fun X hX hR hT => ?_)
  refine g_lv1 (lv1 := [(0, .ref o), (1, .int i), (2, .int x)]) rfl ?_
  refine g_aload_n hX (pc := 0) dX1_quick_0 0 rfl ?_
  refine g_iload_n hX (pc := 1) dX1_quick_1 1 rfl ?_
  refine gx_callV hX (pc := 2) kX1_requestAt (mx_Q_requestAt E l hl0 o n lm lb lr (nLo P) (nNow P) ras wr i hAr (hb)) q1437 fcX1 (sp_mem (i := 0) rfl) [0, 0, 0] rfl rfl rfl (Nat.le_of_ble_eq_true rfl) (Nat.le_of_ble_eq_true rfl) (Nat.le_of_ble_eq_true rfl) (Nat.le_of_ble_eq_true rfl) (Nat.le_of_ble_eq_true rfl) dX1_quick_2 (fun C q w1 hp => ?_) (fun v w1 hp => hp.elim)
  obtain ⟨rfl, rfl⟩ := hp
  exact gx_out hX hR hT (Nat.le_of_ble_eq_true rfl) (Nat.le_of_ble_eq_true rfl) ⟨rfl, rfl⟩

set_option maxHeartbeats 4000000 in
theorem mx_Q_ofRequest_P (E : EE) (l : Launch) (hl0 : l.stackTraces = false) (o : Nat) (n : Nat) (lm : Nat) (lb : Nat) (lr : Nat) (P : PN) (wr : va_W) (wq : va_W) (i : Int32) (x : Int32) (hRq : RL E lr (nR P) wr wq) (hb : (i < 0 ∨ ¬ i < nI (List.length (nR P)))) : Mx E l yX1_ofRequest cX1_ofRequest 4 (some .int) 8 1 6 123 [.ref o, .int i, .int x] [[(o, ob 0 [.ref n])], [(n, ob 1 [.ref lm, .ref lb, .ref lr, .int (nLo P), .int (nNow P)])], wr] (fun (_ : Option Value) (_ : List va_W) => False) (fun (C_ : String) (cs_ : List va_W) => C_ = "java/lang/IndexOutOfBoundsException" ∧ cs_ = [[(o, ob 0 [.ref n])], [(n, ob 1 [.ref lm, .ref lb, .ref lr, .int (nLo P), .int (nNow P)])], wr]) := by
  obtain ⟨ras, hAr, hrl⟩ := RL.al hRq
  rw [← hrl] at hb
  refine Mx.of (by decide) (Nat.le_of_ble_eq_true rfl) (fun X hX hR hT => ?_)
  refine g_lv1 (lv1 := [(0, .ref o), (1, .int i), (2, .int x)]) rfl ?_
  refine g_aload_n hX (pc := 0) dX1_ofRequest_0 0 rfl ?_
  refine g_iload_n hX (pc := 1) dX1_ofRequest_1 1 rfl ?_
  refine gx_callV hX (pc := 2) kX1_requestAt (mx_Q_requestAt E l hl0 o n lm lb lr (nLo P) (nNow P) ras wr i hAr (hb)) q1437 fcX1 (sp_mem (i := 0) rfl) [0, 0, 0] rfl rfl rfl (Nat.le_of_ble_eq_true rfl) (Nat.le_of_ble_eq_true rfl) (Nat.le_of_ble_eq_true rfl) (Nat.le_of_ble_eq_true rfl) (Nat.le_of_ble_eq_true rfl) dX1_ofRequest_2 (fun C q w1 hp => ?_) (fun v w1 hp => hp.elim)
  obtain ⟨rfl, rfl⟩ := hp
  exact gx_out hX hR hT (Nat.le_of_ble_eq_true rfl) (Nat.le_of_ble_eq_true rfl) ⟨rfl, rfl⟩

set_option maxHeartbeats 4000000 in
theorem mx_Q_wouldAnswer_P (E : EE) (l : Launch) (hl0 : l.stackTraces = false) (o : Nat) (n : Nat) (lm : Nat) (lb : Nat) (lr : Nat) (P : PN) (wr : va_W) (wq : va_W) (i : Int32) (hRq : RL E lr (nR P) wr wq) (hb : (i < 0 ∨ ¬ i < nI (List.length (nR P)))) : Mx E l yX1_wouldAnswer cX1_wouldAnswer 2 (some .int) 8 1 6 123 [.ref o, .int i] [[(o, ob 0 [.ref n])], [(n, ob 1 [.ref lm, .ref lb, .ref lr, .int (nLo P), .int (nNow P)])], wr] (fun (_ : Option Value) (_ : List va_W) => False) (fun (C_ : String) (cs_ : List va_W) => C_ = "java/lang/IndexOutOfBoundsException" ∧ cs_ = [[(o, ob 0 [.ref n])], [(n, ob 1 [.ref lm, .ref lb, .ref lr, .int (nLo P), .int (nNow P)])], wr]) := by
  obtain ⟨ras, hAr, hrl⟩ := RL.al hRq
  rw [← hrl] at hb
  refine Mx.of (by decide) (Nat.le_of_ble_eq_true rfl) (fun X hX hR hT => ?_)
  refine g_lv1 (lv1 := [(0, .ref o), (1, .int i)]) rfl ?_
  refine g_aload_n hX (pc := 0) dX1_wouldAnswer_0 0 rfl ?_
  refine g_iload_n hX (pc := 1) dX1_wouldAnswer_1 1 rfl ?_
  refine gx_callV hX (pc := 2) kX1_requestAt (mx_Q_requestAt E l hl0 o n lm lb lr (nLo P) (nNow P) ras wr i hAr (hb)) q1437 fcX1 (sp_mem (i := 0) rfl) [0, 0, 0] rfl rfl rfl (Nat.le_of_ble_eq_true rfl) (Nat.le_of_ble_eq_true rfl) (Nat.le_of_ble_eq_true rfl) (Nat.le_of_ble_eq_true rfl) (Nat.le_of_ble_eq_true rfl) dX1_wouldAnswer_2 (fun C q w1 hp => ?_) (fun v w1 hp => hp.elim)
  obtain ⟨rfl, rfl⟩ := hp
  exact gx_out hX hR hT (Nat.le_of_ble_eq_true rfl) (Nat.le_of_ble_eq_true rfl) ⟨rfl, rfl⟩

set_option maxHeartbeats 4000000 in
theorem mx_Q_send_P2 (E : EE) (l : Launch) (hl0 : l.stackTraces = false) (o : Nat) (n : Nat) (lm : Nat) (lb : Nat) (lr : Nat) (P : PN) (wm : va_W) (wM : va_W) (wr : va_W) (wq : va_W) (fz : va_W) (j : Nat) (r : PR) (i : Int32) (hML : ML E fz lm (nM P) wm wM) (hRq : RL E lr (nR P) wr wq) (hj : ((nR P)[j]? = some r)) (h40 : ((nR P).length ≤ 40)) (hb : (i < 0 ∨ ¬ i < nI (List.length (nM P)))) : Mx E l yX1_send cX1_send 4 (some .int) 9 1 6 145 [.ref o, .int (nI j), .int i] [[(o, ob 0 [.ref n])], [(n, ob 1 [.ref lm, .ref lb, .ref lr, .int (nLo P), .int (nNow P)])], wm, wr, wq] (fun (_ : Option Value) (_ : List va_W) => False) (fun (C_ : String) (cs_ : List va_W) => C_ = "java/lang/IndexOutOfBoundsException" ∧ cs_ = [[(o, ob 0 [.ref n])], [(n, ob 1 [.ref lm, .ref lb, .ref lr, .int (nLo P), .int (nNow P)])], wm, wr, wq]) := by
  obtain ⟨ras, a, hAr, hrl, hra, hrm⟩ := RL.at hRq hj
  obtain ⟨mas, hAm, hml⟩ := ML.al hML
  rw [← hml] at hb
  refine Mx.of (by decide) (Nat.le_of_ble_eq_true rfl) (fun X hX hR hT => ?_)
  refine g_lv1 (lv1 := [(0, .ref o), (1, .int (nI j)), (2, .int i)]) rfl ?_
  refine g_aload_n hX (pc := 0) dX1_send_0 0 rfl ?_
  refine g_iload_n hX (pc := 1) dX1_send_1 1 rfl ?_
  refine g_callV hX (pc := 2) kX1_requestAt (mt_Q_requestAt E l o n lm lb lr (nLo P) (nNow P) ras wr wq j a r hAr (hra) (by omega) (hrm)) q1437 fcX1 (sp_mem (i := 0) rfl) [0, 0, 1, 1] rfl rfl rfl (Nat.le_of_ble_eq_true rfl) (Nat.le_of_ble_eq_true rfl) (Nat.le_of_ble_eq_true rfl) (Nat.le_of_ble_eq_true rfl) (Nat.le_of_ble_eq_true rfl) dX1_send_2 (fun v w1 hp => ?_)
  obtain ⟨rfl, rfl⟩ := hp
  refine g_nrm (cs1 := [[(o, ob 0 [.ref n])], [(n, ob 1 [.ref lm, .ref lb, .ref lr, .int (nLo P), .int (nNow P)])], wr, wq, wm]) (st1 := [.ref a]) rfl rfl ?_
  refine g_pop hX (pc := 5) dX1_send_5 rfl ?_
  refine g_aload_n hX (pc := 6) dX1_send_6 0 rfl ?_
  refine g_iload_n hX (pc := 7) dX1_send_7 2 rfl ?_
  refine gx_callV hX (pc := 8) kX1_upAt (mx_Q_upAtP E l hl0 o n lm lb lr (nLo P) (nNow P) mas wm i hAm (hb)) q1380 fcX1 (sp_mem (i := 0) rfl) [0, 0, 2] rfl rfl rfl (Nat.le_of_ble_eq_true rfl) (Nat.le_of_ble_eq_true rfl) (Nat.le_of_ble_eq_true rfl) (Nat.le_of_ble_eq_true rfl) (Nat.le_of_ble_eq_true rfl) dX1_send_8 (fun C q w1 hp => ?_) (fun v w1 hp => hp.elim)
  obtain ⟨rfl, rfl⟩ := hp
  exact gx_out hX hR hT (Nat.le_of_ble_eq_true rfl) (Nat.le_of_ble_eq_true rfl) ⟨rfl, rfl⟩

set_option maxHeartbeats 4000000 in
theorem mx_Q_quick_P2 (E : EE) (l : Launch) (hl0 : l.stackTraces = false) (o : Nat) (n : Nat) (lm : Nat) (lb : Nat) (lr : Nat) (P : PN) (wm : va_W) (wM : va_W) (wr : va_W) (wq : va_W) (fz : va_W) (j : Nat) (r : PR) (i : Int32) (hML : ML E fz lm (nM P) wm wM) (hRq : RL E lr (nR P) wr wq) (hj : ((nR P)[j]? = some r)) (h40 : ((nR P).length ≤ 40)) (hb : (i < 0 ∨ ¬ i < nI (List.length (nM P)))) : Mx E l yX1_quick cX1_quick 5 (some .int) 8 1 6 123 [.ref o, .int (nI j), .int i] [[(o, ob 0 [.ref n])], [(n, ob 1 [.ref lm, .ref lb, .ref lr, .int (nLo P), .int (nNow P)])], wm, wr, wq] (fun (_ : Option Value) (_ : List va_W) => False) (fun (C_ : String) (cs_ : List va_W) => C_ = "java/lang/IndexOutOfBoundsException" ∧ cs_ = [[(o, ob 0 [.ref n])], [(n, ob 1 [.ref lm, .ref lb, .ref lr, .int (nLo P), .int (nNow P)])], wm, wr, wq]) := by
  obtain ⟨ras, a, hAr, hrl, hra, hrm⟩ := RL.at hRq hj
  obtain ⟨mas, hAm, hml⟩ := ML.al hML
  rw [← hml] at hb
  refine Mx.of (by decide) (Nat.le_of_ble_eq_true rfl) (fun X hX hR hT => ?_)
  refine g_lv1 (lv1 := [(0, .ref o), (1, .int (nI j)), (2, .int i)]) rfl ?_
  refine g_aload_n hX (pc := 0) dX1_quick_0 0 rfl ?_
  refine g_iload_n hX (pc := 1) dX1_quick_1 1 rfl ?_
  refine g_callV hX (pc := 2) kX1_requestAt (mt_Q_requestAt E l o n lm lb lr (nLo P) (nNow P) ras wr wq j a r hAr (hra) (by omega) (hrm)) q1437 fcX1 (sp_mem (i := 0) rfl) [0, 0, 1, 1] rfl rfl rfl (Nat.le_of_ble_eq_true rfl) (Nat.le_of_ble_eq_true rfl) (Nat.le_of_ble_eq_true rfl) (Nat.le_of_ble_eq_true rfl) (Nat.le_of_ble_eq_true rfl) dX1_quick_2 (fun v w1 hp => ?_)
  obtain ⟨rfl, rfl⟩ := hp
  refine g_nrm (cs1 := [[(o, ob 0 [.ref n])], [(n, ob 1 [.ref lm, .ref lb, .ref lr, .int (nLo P), .int (nNow P)])], wr, wq, wm]) (st1 := [.ref a]) rfl rfl ?_
  refine g_astore_n hX (pc := 5) (lv1 := [(3, .ref a), (0, .ref o), (1, .int (nI j)), (2, .int i)]) dX1_quick_5 (by decide) rfl ?_
  refine g_aload_n hX (pc := 6) dX1_quick_6 1 rfl ?_
  refine g_iload_n hX (pc := 7) dX1_quick_7 3 rfl ?_
  refine gx_callV hX (pc := 8) kX1_machineAt (mx_Q_machineAt E l hl0 o n lm lb lr (nLo P) (nNow P) mas wm i hAm (hb)) q1360 fcX1 (sp_mem (i := 0) rfl) [0, 0, 2] rfl rfl rfl (Nat.le_of_ble_eq_true rfl) (Nat.le_of_ble_eq_true rfl) (Nat.le_of_ble_eq_true rfl) (Nat.le_of_ble_eq_true rfl) (Nat.le_of_ble_eq_true rfl) dX1_quick_8 (fun C q w1 hp => ?_) (fun v w1 hp => hp.elim)
  obtain ⟨rfl, rfl⟩ := hp
  exact gx_out hX hR hT (Nat.le_of_ble_eq_true rfl) (Nat.le_of_ble_eq_true rfl) ⟨rfl, rfl⟩

set_option maxHeartbeats 4000000 in
theorem mx_Q_send_S (E : EE) (l : Launch) (hl0 : l.stackTraces = false) (o : Nat) (n : Nat) (lm : Nat) (lb : Nat) (lr : Nat) (P : PN) (wm : va_W) (wM : va_W) (wr : va_W) (wq : va_W) (fz : va_W) (j : Nat) (r : PR) (k : Nat) (hML : ML E fz lm (nM P) wm wM) (hRq : RL E lr (nR P) wr wq) (hj : ((nR P)[j]? = some r)) (h40 : ((nR P).length ≤ 40)) (h5 : ((nM P).length ≤ 5)) (hk : (k < (nM P).length)) (hd : (mR (mAt P k) = 0)) : Mx E l yX1_send cX1_send 4 (some .int) 8 1 6 129 [.ref o, .int (nI j), .int (nI k)] [[(o, ob 0 [.ref n])], [(n, ob 1 [.ref lm, .ref lb, .ref lr, .int (nLo P), .int (nNow P)])], wm, wM, wr, wq] (fun (_ : Option Value) (_ : List va_W) => False) (fun (C_ : String) (cs_ : List va_W) => C_ = "java/lang/IllegalStateException" ∧ cs_ = [[(o, ob 0 [.ref n])], [(n, ob 1 [.ref lm, .ref lb, .ref lr, .int (nLo P), .int (nNow P)])], wm, wM, wr, wq]) := by
  obtain ⟨ras, a, hAr, hrl, hra, hrm⟩ := RL.at hRq hj
  refine Mx.of (by decide) (Nat.le_of_ble_eq_true rfl) (fun X hX hR hT => ?_)
  refine g_lv1 (lv1 := [(0, .ref o), (1, .int (nI j)), (2, .int (nI k))]) rfl ?_
  refine g_aload_n hX (pc := 0) dX1_send_0 0 rfl ?_
  refine g_iload_n hX (pc := 1) dX1_send_1 1 rfl ?_
  refine g_callV hX (pc := 2) kX1_requestAt (mt_Q_requestAt E l o n lm lb lr (nLo P) (nNow P) ras wr wq j a r hAr (hra) (by omega) (hrm)) q1437 fcX1 (sp_mem (i := 0) rfl) [0, 0, 2, 2] rfl rfl rfl (Nat.le_of_ble_eq_true rfl) (Nat.le_of_ble_eq_true rfl) (Nat.le_of_ble_eq_true rfl) (Nat.le_of_ble_eq_true rfl) (Nat.le_of_ble_eq_true rfl) dX1_send_2 (fun v w1 hp => ?_)
  obtain ⟨rfl, rfl⟩ := hp
  refine g_nrm (cs1 := [[(o, ob 0 [.ref n])], [(n, ob 1 [.ref lm, .ref lb, .ref lr, .int (nLo P), .int (nNow P)])], wr, wq, wm, wM]) (st1 := [.ref a]) rfl rfl ?_
  refine g_pop hX (pc := 5) dX1_send_5 rfl ?_
  refine g_aload_n hX (pc := 6) dX1_send_6 0 rfl ?_
  refine g_iload_n hX (pc := 7) dX1_send_7 2 rfl ?_
  obtain ⟨M7, hgM7⟩ := get_ex (l := (nM P)) (i := k) (hk)
  obtain ⟨mas1, m2, hAm3, hml4, hmk5, hMI6⟩ := ML.at hML hgM7
  refine gx_callV hX (pc := 8) kX1_upAt (mx_Q_upAtS E l hl0 o n lm lb lr (nLo P) (nNow P) mas1 wm k m2 M7 fz wM hAm3 hMI6 (hmk5) (by omega) (by rw [← hd, mAt_get hgM7])) q1380 fcX1 (sp_mem (i := 0) rfl) [0, 0, 2, 2] rfl rfl rfl (Nat.le_of_ble_eq_true rfl) (Nat.le_of_ble_eq_true rfl) (Nat.le_of_ble_eq_true rfl) (Nat.le_of_ble_eq_true rfl) (Nat.le_of_ble_eq_true rfl) dX1_send_8 (fun C q w1 hp => ?_) (fun v w1 hp => hp.elim)
  obtain ⟨rfl, rfl⟩ := hp
  exact gx_out hX hR hT (Nat.le_of_ble_eq_true rfl) (Nat.le_of_ble_eq_true rfl) ⟨rfl, rfl⟩

set_option maxHeartbeats 4000000 in
theorem mx_Q_quick_A (E : EE) (l : Launch) (hl0 : l.stackTraces = false) (o : Nat) (n : Nat) (lm : Nat) (lb : Nat) (lr : Nat) (P : PN) (wm : va_W) (wM : va_W) (wr : va_W) (wq : va_W) (fz : va_W) (j : Nat) (r : PR) (k : Nat) (hML : ML E fz lm (nM P) wm wM) (hRq : RL E lr (nR P) wr wq) (hj : ((nR P)[j]? = some r)) (h40 : ((nR P).length ≤ 40)) (h5 : ((nM P).length ≤ 5)) (hk : (k < (nM P).length)) (hkd : (¬ rK r = 1)) (hk6 : (rK r < 6)) : Mx E l yX1_quick cX1_quick 5 (some .int) 7 1 6 107 [.ref o, .int (nI j), .int (nI k)] [[(o, ob 0 [.ref n])], [(n, ob 1 [.ref lm, .ref lb, .ref lr, .int (nLo P), .int (nNow P)])], wm, wM, wr, wq] (fun (_ : Option Value) (_ : List va_W) => False) (fun (C_ : String) (cs_ : List va_W) => C_ = "java/lang/IllegalArgumentException" ∧ cs_ = [[(o, ob 0 [.ref n])], [(n, ob 1 [.ref lm, .ref lb, .ref lr, .int (nLo P), .int (nNow P)])], wm, wM, wr, wq]) := by
  obtain ⟨ras, a, hAr, hrl, hra, hrm⟩ := RL.at hRq hj
  refine Mx.of (by decide) (Nat.le_of_ble_eq_true rfl) (fun X hX hR hT => ?_)
  refine g_lv1 (lv1 := [(0, .ref o), (1, .int (nI j)), (2, .int (nI k))]) rfl ?_
  refine g_aload_n hX (pc := 0) dX1_quick_0 0 rfl ?_
  refine g_iload_n hX (pc := 1) dX1_quick_1 1 rfl ?_
  refine g_callV hX (pc := 2) kX1_requestAt (mt_Q_requestAt E l o n lm lb lr (nLo P) (nNow P) ras wr wq j a r hAr (hra) (by omega) (hrm)) q1437 fcX1 (sp_mem (i := 0) rfl) [0, 0, 2, 2] rfl rfl rfl (Nat.le_of_ble_eq_true rfl) (Nat.le_of_ble_eq_true rfl) (Nat.le_of_ble_eq_true rfl) (Nat.le_of_ble_eq_true rfl) (Nat.le_of_ble_eq_true rfl) dX1_quick_2 (fun v w1 hp => ?_)
  obtain ⟨rfl, rfl⟩ := hp
  refine g_nrm (cs1 := [[(o, ob 0 [.ref n])], [(n, ob 1 [.ref lm, .ref lb, .ref lr, .int (nLo P), .int (nNow P)])], wr, wq, wm, wM]) (st1 := [.ref a]) rfl rfl ?_
  refine g_astore_n hX (pc := 5) (lv1 := [(3, .ref a), (0, .ref o), (1, .int (nI j)), (2, .int (nI k))]) dX1_quick_5 (by decide) rfl ?_
  refine g_aload_n hX (pc := 6) dX1_quick_6 1 rfl ?_
  refine g_iload_n hX (pc := 7) dX1_quick_7 3 rfl ?_
  obtain ⟨M7, hgM7⟩ := get_ex (l := (nM P)) (i := k) (hk)
  obtain ⟨mas1, m2, hAm3, hml4, hmk5, hMI6⟩ := ML.at hML hgM7
  obtain ⟨rn8, rk9, rl10, rs11, rst12, la13, sp14, lb15, sp216, fn17, fk18, m019, arr20, m121, arr122, h123, h224, h325, h426, h527, h628, h729, hn30⟩ := hMI6.peek
  refine g_callV hX (pc := 8) kX1_machineAt (mt_Q_machineAtI E l o n lm lb lr (nLo P) (nNow P) mas1 wm k m2 M7 fz wM hAm3 hMI6 (hmk5) (by omega)) q1360 fcX1 (sp_mem (i := 0) rfl) [0, 0, 2, 2] rfl rfl rfl (Nat.le_of_ble_eq_true rfl) (Nat.le_of_ble_eq_true rfl) (Nat.le_of_ble_eq_true rfl) (Nat.le_of_ble_eq_true rfl) (Nat.le_of_ble_eq_true rfl) dX1_quick_8 (fun v w1 hp => ?_)
  obtain ⟨rfl, rfl⟩ := hp
  refine g_nrm (cs1 := [[(o, ob 0 [.ref n])], [(n, ob 1 [.ref lm, .ref lb, .ref lr, .int (nLo P), .int (nNow P)])], wm, wM, wr, wq]) (st1 := [.ref m2]) rfl rfl ?_
  refine g_astore hX (pc := 11) (lv1 := [(4, .ref m2), (3, .ref a), (0, .ref o), (1, .int (nI j)), (2, .int (nI k))]) dX1_quick_11 (by decide) rfl ?_
  refine g_aload_n hX (pc := 13) dX1_quick_13 1 rfl ?_
  refine g_getNm hX (pc := 14) fcX12 (sp_in 5 rfl hrm) 1 (by decide) q994 rfl (v := .ref (aK E (rK r))) rfl dX1_quick_14 ?_
  refine g_gets hX (pc := 17) (v := .ref (aK E 1)) ((cx_gs hX).1.1 1 (by decide)).1 q1457 rfl dX1_quick_17 ?_
  refine g_val (v := if (aK E (rK r)) = (aK E 1) then 1 else 0) (pcJ := 28) (st1 := []) (fun hj31 => ?_) ?_
  · refine g_acmp_ner hX (pc := 20) (tgt := 27) dX1_quick_20 rfl (fun c32 => ?_) (fun c32 => ?_)
    · refine g_iconst hX (pc := 27) (v := 0) dX1_quick_27 (by decide) ?_
      exact hj31 _ (by rw [if_neg c32])
    · refine g_iconst hX (pc := 23) (v := 1) dX1_quick_23 (by decide) ?_
      refine g_goto hX (pc := 24) (tgt := 28) dX1_quick_24 rfl ?_
      exact hj31 _ (by rw [if_pos c32])
  refine g_eqi 0 (if_neg (fun z => hkd ((aK_inj hX hk6 (by omega)).mp z))) ?_
  refine gx_callS hX (pc := 28) kX1_must (mx_must E l hl0 ) q1311 [] rfl rfl rfl (Nat.le_of_ble_eq_true rfl) (Nat.le_of_ble_eq_true rfl) (Nat.le_of_ble_eq_true rfl) (Nat.le_of_ble_eq_true rfl) (Nat.le_of_ble_eq_true rfl) dX1_quick_28 (fun C q w1 hp => ?_) (fun v w1 hp => hp.elim)
  obtain ⟨rfl, rfl⟩ := hp
  exact gx_out hX hR hT (Nat.le_of_ble_eq_true rfl) (Nat.le_of_ble_eq_true rfl) ⟨rfl, rfl⟩

set_option maxHeartbeats 4000000 in
theorem mx_Q_quick_S (E : EE) (l : Launch) (hl0 : l.stackTraces = false) (o : Nat) (n : Nat) (lm : Nat) (lb : Nat) (lr : Nat) (P : PN) (wm : va_W) (wM : va_W) (wr : va_W) (wq : va_W) (fz : va_W) (j : Nat) (r : PR) (k : Nat) (hML : ML E fz lm (nM P) wm wM) (hRq : RL E lr (nR P) wr wq) (hj : ((nR P)[j]? = some r)) (h40 : ((nR P).length ≤ 40)) (h5 : ((nM P).length ≤ 5)) (hk : (k < (nM P).length)) (hkd : (rK r = 1)) (hs : (mR (mAt P k) = 0 ∨ ¬ rSent r = (-1))) : Mx E l yX1_quick cX1_quick 5 (some .int) 7 1 6 107 [.ref o, .int (nI j), .int (nI k)] [[(o, ob 0 [.ref n])], [(n, ob 1 [.ref lm, .ref lb, .ref lr, .int (nLo P), .int (nNow P)])], wm, wM, wr, wq] (fun (_ : Option Value) (_ : List va_W) => False) (fun (C_ : String) (cs_ : List va_W) => C_ = "java/lang/IllegalStateException" ∧ cs_ = [[(o, ob 0 [.ref n])], [(n, ob 1 [.ref lm, .ref lb, .ref lr, .int (nLo P), .int (nNow P)])], wm, wM, wr, wq]) := by
  obtain ⟨ras, a, hAr, hrl, hra, hrm⟩ := RL.at hRq hj
  refine Mx.of (by decide) (Nat.le_of_ble_eq_true rfl) (fun X hX hR hT => ?_)
  refine g_lv1 (lv1 := [(0, .ref o), (1, .int (nI j)), (2, .int (nI k))]) rfl ?_
  refine g_aload_n hX (pc := 0) dX1_quick_0 0 rfl ?_
  refine g_iload_n hX (pc := 1) dX1_quick_1 1 rfl ?_
  refine g_callV hX (pc := 2) kX1_requestAt (mt_Q_requestAt E l o n lm lb lr (nLo P) (nNow P) ras wr wq j a r hAr (hra) (by omega) (hrm)) q1437 fcX1 (sp_mem (i := 0) rfl) [0, 0, 2, 2] rfl rfl rfl (Nat.le_of_ble_eq_true rfl) (Nat.le_of_ble_eq_true rfl) (Nat.le_of_ble_eq_true rfl) (Nat.le_of_ble_eq_true rfl) (Nat.le_of_ble_eq_true rfl) dX1_quick_2 (fun v w1 hp => ?_)
  obtain ⟨rfl, rfl⟩ := hp
  refine g_nrm (cs1 := [[(o, ob 0 [.ref n])], [(n, ob 1 [.ref lm, .ref lb, .ref lr, .int (nLo P), .int (nNow P)])], wr, wq, wm, wM]) (st1 := [.ref a]) rfl rfl ?_
  refine g_astore_n hX (pc := 5) (lv1 := [(3, .ref a), (0, .ref o), (1, .int (nI j)), (2, .int (nI k))]) dX1_quick_5 (by decide) rfl ?_
  refine g_aload_n hX (pc := 6) dX1_quick_6 1 rfl ?_
  refine g_iload_n hX (pc := 7) dX1_quick_7 3 rfl ?_
  obtain ⟨M7, hgM7⟩ := get_ex (l := (nM P)) (i := k) (hk)
  obtain ⟨mas1, m2, hAm3, hml4, hmk5, hMI6⟩ := ML.at hML hgM7
  obtain ⟨rn8, rk9, rl10, rs11, rst12, la13, sp14, lb15, sp216, fn17, fk18, m019, arr20, m121, arr122, h123, h224, h325, h426, h527, h628, h729, hn30⟩ := hMI6.peek
  refine g_callV hX (pc := 8) kX1_machineAt (mt_Q_machineAtI E l o n lm lb lr (nLo P) (nNow P) mas1 wm k m2 M7 fz wM hAm3 hMI6 (hmk5) (by omega)) q1360 fcX1 (sp_mem (i := 0) rfl) [0, 0, 2, 2] rfl rfl rfl (Nat.le_of_ble_eq_true rfl) (Nat.le_of_ble_eq_true rfl) (Nat.le_of_ble_eq_true rfl) (Nat.le_of_ble_eq_true rfl) (Nat.le_of_ble_eq_true rfl) dX1_quick_8 (fun v w1 hp => ?_)
  obtain ⟨rfl, rfl⟩ := hp
  refine g_nrm (cs1 := [[(o, ob 0 [.ref n])], [(n, ob 1 [.ref lm, .ref lb, .ref lr, .int (nLo P), .int (nNow P)])], wm, wM, wr, wq]) (st1 := [.ref m2]) rfl rfl ?_
  refine g_astore hX (pc := 11) (lv1 := [(4, .ref m2), (3, .ref a), (0, .ref o), (1, .int (nI j)), (2, .int (nI k))]) dX1_quick_11 (by decide) rfl ?_
  refine g_aload_n hX (pc := 13) dX1_quick_13 1 rfl ?_
  refine g_getNm hX (pc := 14) fcX12 (sp_in 5 rfl hrm) 1 (by decide) q994 rfl (v := .ref (aK E (rK r))) rfl dX1_quick_14 ?_
  refine g_gets hX (pc := 17) (v := .ref (aK E 1)) ((cx_gs hX).1.1 1 (by decide)).1 q1457 rfl dX1_quick_17 ?_
  refine g_val (v := if (aK E (rK r)) = (aK E 1) then 1 else 0) (pcJ := 28) (st1 := []) (fun hj31 => ?_) ?_
  · refine g_acmp_ner hX (pc := 20) (tgt := 27) dX1_quick_20 rfl (fun c32 => ?_) (fun c32 => ?_)
    · refine g_iconst hX (pc := 27) (v := 0) dX1_quick_27 (by decide) ?_
      exact hj31 _ (by rw [if_neg c32])
    · refine g_iconst hX (pc := 23) (v := 1) dX1_quick_23 (by decide) ?_
      refine g_goto hX (pc := 24) (tgt := 28) dX1_quick_24 rfl ?_
      exact hj31 _ (by rw [if_pos c32])
  refine g_eqi 1 (by rw [if_pos (by rw [hkd])]) ?_
  refine g_callS hX (pc := 28) kX1_must (mt_must E l ) q1311 [] rfl rfl rfl (Nat.le_of_ble_eq_true rfl) (Nat.le_of_ble_eq_true rfl) (Nat.le_of_ble_eq_true rfl) (Nat.le_of_ble_eq_true rfl) (Nat.le_of_ble_eq_true rfl) dX1_quick_28 (fun v w1 hp => ?_)
  obtain ⟨rfl, rfl⟩ := hp
  refine g_nrm (cs1 := [[(o, ob 0 [.ref n])], [(n, ob 1 [.ref lm, .ref lb, .ref lr, .int (nLo P), .int (nNow P)])], wm, wM, wr, wq]) (st1 := []) rfl rfl ?_
  refine g_aload hX (pc := 31) dX1_quick_31 0 rfl ?_
  refine g_callV hX (pc := 33) kX9_isUp (mt_Machine_isUpI E l m2 M7 fz wM hMI6) q1035 fcX9 (sp_in 3 rfl h123) [3] rfl rfl rfl (Nat.le_of_ble_eq_true rfl) (Nat.le_of_ble_eq_true rfl) (Nat.le_of_ble_eq_true rfl) (Nat.le_of_ble_eq_true rfl) (Nat.le_of_ble_eq_true rfl) dX1_quick_33 (fun v w1 hp => ?_)
  obtain ⟨rfl, rfl⟩ := hp
  refine g_nrm (cs1 := [wM, [(o, ob 0 [.ref n])], [(n, ob 1 [.ref lm, .ref lb, .ref lr, .int (nLo P), .int (nNow P)])], wm, wr, wq]) (st1 := [.int (if mR M7 = 0 then 0 else 1)]) rfl rfl ?_
  refine g_if_eq hX (pc := 36) (tgt := 50) dX1_quick_36 rfl (fun c33_ => ?_) (fun c33_ => ?_)
  · have c33 := z01.mp c33_
    refine g_iconst hX (pc := 50) (v := 0) dX1_quick_50 (by decide) ?_
    refine gx_callS hX (pc := 51) kX1_checkState (mx_checkState E l hl0 ) q1268 [] rfl rfl rfl (Nat.le_of_ble_eq_true rfl) (Nat.le_of_ble_eq_true rfl) (Nat.le_of_ble_eq_true rfl) (Nat.le_of_ble_eq_true rfl) (Nat.le_of_ble_eq_true rfl) dX1_quick_51 (fun C q w1 hp => ?_) (fun v w1 hp => hp.elim)
    obtain ⟨rfl, rfl⟩ := hp
    refine gx_pk [1, 1, 1, 0, 0, 0] rfl ?_
    exact gx_out hX hR hT (Nat.le_of_ble_eq_true rfl) (Nat.le_of_ble_eq_true rfl) ⟨rfl, rfl⟩
  · have c33 := z01n.mp c33_
    refine g_aload_n hX (pc := 39) dX1_quick_39 1 rfl ?_
    refine g_callV hX (pc := 40) kX12_isSent (mt_Request_isSentM E l a r wq (hrm)) q1458 fcX12 (sp_in 5 rfl hrm) [5] rfl rfl rfl (Nat.le_of_ble_eq_true rfl) (Nat.le_of_ble_eq_true rfl) (Nat.le_of_ble_eq_true rfl) (Nat.le_of_ble_eq_true rfl) (Nat.le_of_ble_eq_true rfl) dX1_quick_40 (fun v w1 hp => ?_)
    obtain ⟨rfl, rfl⟩ := hp
    refine g_nrm (cs1 := [wq, wM, [(o, ob 0 [.ref n])], [(n, ob 1 [.ref lm, .ref lb, .ref lr, .int (nLo P), .int (nNow P)])], wm, wr]) (st1 := [.int (if rSent r = (-1) then 0 else 1)]) rfl rfl ?_
    refine g_val (v := if rSent r = (-1) then 1 else 0) (pcJ := 51) (st1 := []) (fun hj34 => ?_) ?_
    · refine g_if_ne hX (pc := 43) (tgt := 50) dX1_quick_43 rfl (fun c35_ => ?_) (fun c35_ => ?_)
      · have c35 := z01n.mp c35_
        refine g_iconst hX (pc := 50) (v := 0) dX1_quick_50 (by decide) ?_
        exact hj34 _ (by rw [if_neg c35])
      · have c35 := z01.mp c35_
        refine g_iconst hX (pc := 46) (v := 1) dX1_quick_46 (by decide) ?_
        refine g_goto hX (pc := 47) (tgt := 51) dX1_quick_47 rfl ?_
        exact hj34 _ (by rw [if_pos c35])
    refine g_eqi 0 (if_neg (hs.resolve_left (by rw [mAt_get hgM7]; exact c33))) ?_
    refine gx_callS hX (pc := 51) kX1_checkState (mx_checkState E l hl0 ) q1268 [] rfl rfl rfl (Nat.le_of_ble_eq_true rfl) (Nat.le_of_ble_eq_true rfl) (Nat.le_of_ble_eq_true rfl) (Nat.le_of_ble_eq_true rfl) (Nat.le_of_ble_eq_true rfl) dX1_quick_51 (fun C q w1 hp => ?_) (fun v w1 hp => hp.elim)
    obtain ⟨rfl, rfl⟩ := hp
    refine gx_pk [2, 2, 2, 1, 1, 0] rfl ?_
    exact gx_out hX hR hT (Nat.le_of_ble_eq_true rfl) (Nat.le_of_ble_eq_true rfl) ⟨rfl, rfl⟩

set_option maxHeartbeats 4000000 in
theorem mx_Q_ofMachine_A (E : EE) (l : Launch) (hl0 : l.stackTraces = false) (o : Nat) (n : Nat) (lm : Nat) (lb : Nat) (lr : Nat) (P : PN) (wm : va_W) (wM : va_W) (fz : va_W) (k : Nat) (v : Int32) (hML : ML E fz lm (nM P) wm wM) (h5 : ((nM P).length ≤ 5)) (hk : (k < (nM P).length)) (hb : (v < 0 ∨ 8 < v)) : Mx E l yX1_ofMachine cX1_ofMachine 3 (some .int) 8 1 6 123 [.ref o, .int (nI k), .int v] [[(o, ob 0 [.ref n])], [(n, ob 1 [.ref lm, .ref lb, .ref lr, .int (nLo P), .int (nNow P)])], wm, wM] (fun (_ : Option Value) (_ : List va_W) => False) (fun (C_ : String) (cs_ : List va_W) => C_ = "java/lang/IllegalArgumentException" ∧ cs_ = [[(o, ob 0 [.ref n])], [(n, ob 1 [.ref lm, .ref lb, .ref lr, .int (nLo P), .int (nNow P)])], wm, wM]) := by
  refine Mx.of (by decide) (Nat.le_of_ble_eq_true rfl) (fun X hX hR hT => ?_)
  refine g_lv1 (lv1 := [(0, .ref o), (1, .int (nI k)), (2, .int v)]) rfl ?_
  refine g_aload_n hX (pc := 0) dX1_ofMachine_0 0 rfl ?_
  refine g_iload_n hX (pc := 1) dX1_ofMachine_1 1 rfl ?_
  obtain ⟨M7, hgM7⟩ := get_ex (l := (nM P)) (i := k) (hk)
  obtain ⟨mas1, m2, hAm3, hml4, hmk5, hMI6⟩ := ML.at hML hgM7
  obtain ⟨rn8, rk9, rl10, rs11, rst12, la13, sp14, lb15, sp216, fn17, fk18, m019, arr20, m121, arr122, h123, h224, h325, h426, h527, h628, h729, hn30⟩ := hMI6.peek
  refine g_callV hX (pc := 2) kX1_machineAt (mt_Q_machineAtI E l o n lm lb lr (nLo P) (nNow P) mas1 wm k m2 M7 fz wM hAm3 hMI6 (hmk5) (by omega)) q1360 fcX1 (sp_mem (i := 0) rfl) [0, 0, 0, 0] rfl rfl rfl (Nat.le_of_ble_eq_true rfl) (Nat.le_of_ble_eq_true rfl) (Nat.le_of_ble_eq_true rfl) (Nat.le_of_ble_eq_true rfl) (Nat.le_of_ble_eq_true rfl) dX1_ofMachine_2 (fun v w1 hp => ?_)
  obtain ⟨rfl, rfl⟩ := hp
  refine g_nrm (cs1 := [[(o, ob 0 [.ref n])], [(n, ob 1 [.ref lm, .ref lb, .ref lr, .int (nLo P), .int (nNow P)])], wm, wM]) (st1 := [.ref m2]) rfl rfl ?_
  refine g_pop hX (pc := 5) dX1_ofMachine_5 rfl ?_
  refine g_iload_n hX (pc := 6) dX1_ofMachine_6 2 rfl ?_
  refine g_iconst hX (pc := 7) (v := 0) dX1_ofMachine_7 (by decide) ?_
  refine g_bipush hX (pc := 8) (v := 8) dX1_ofMachine_8 (by decide) ?_
  refine gx_callS hX (pc := 10) kX1_mustBeIn (mx_mustBeIn E l hl0 v 0 8 (hb)) q1308 [] rfl rfl rfl (Nat.le_of_ble_eq_true rfl) (Nat.le_of_ble_eq_true rfl) (Nat.le_of_ble_eq_true rfl) (Nat.le_of_ble_eq_true rfl) (Nat.le_of_ble_eq_true rfl) dX1_ofMachine_10 (fun C q w1 hp => ?_) (fun v w1 hp => hp.elim)
  obtain ⟨rfl, rfl⟩ := hp
  exact gx_out hX hR hT (Nat.le_of_ble_eq_true rfl) (Nat.le_of_ble_eq_true rfl) ⟨rfl, rfl⟩

set_option maxHeartbeats 4000000 in
theorem mx_Q_follows_P2 (E : EE) (l : Launch) (hl0 : l.stackTraces = false) (o : Nat) (n : Nat) (lm : Nat) (lb : Nat) (lr : Nat) (P : PN) (wm : va_W) (wM : va_W) (fz : va_W) (k : Nat) (i : Int32) (z : Int32) (hML : ML E fz lm (nM P) wm wM) (h5 : ((nM P).length ≤ 5)) (hk : (k < (nM P).length)) (hb : (i < 0 ∨ ¬ i < nI (List.length (nM P)))) : Mx E l yX1_follows cX1_follows 4 (some .int) 8 1 6 123 [.ref o, .int (nI k), .int i, .int z] [[(o, ob 0 [.ref n])], [(n, ob 1 [.ref lm, .ref lb, .ref lr, .int (nLo P), .int (nNow P)])], wm, wM] (fun (_ : Option Value) (_ : List va_W) => False) (fun (C_ : String) (cs_ : List va_W) => C_ = "java/lang/IndexOutOfBoundsException" ∧ cs_ = [[(o, ob 0 [.ref n])], [(n, ob 1 [.ref lm, .ref lb, .ref lr, .int (nLo P), .int (nNow P)])], wm, wM]) := by
  obtain ⟨mas, hAm, hml⟩ := ML.al hML
  rw [← hml] at hb
  refine Mx.of (by decide) (Nat.le_of_ble_eq_true rfl) (fun X hX hR hT => ?_)
  refine g_lv1 (lv1 := [(0, .ref o), (1, .int (nI k)), (2, .int i), (3, .int z)]) rfl ?_
  refine g_aload_n hX (pc := 0) dX1_follows_0 0 rfl ?_
  refine g_iload_n hX (pc := 1) dX1_follows_1 1 rfl ?_
  obtain ⟨M7, hgM7⟩ := get_ex (l := (nM P)) (i := k) (hk)
  obtain ⟨mas1, m2, hAm3, hml4, hmk5, hMI6⟩ := ML.at hML hgM7
  obtain ⟨rn8, rk9, rl10, rs11, rst12, la13, sp14, lb15, sp216, fn17, fk18, m019, arr20, m121, arr122, h123, h224, h325, h426, h527, h628, h729, hn30⟩ := hMI6.peek
  refine g_callV hX (pc := 2) kX1_machineAt (mt_Q_machineAtI E l o n lm lb lr (nLo P) (nNow P) mas1 wm k m2 M7 fz wM hAm3 hMI6 (hmk5) (by omega)) q1360 fcX1 (sp_mem (i := 0) rfl) [0, 0, 0, 0] rfl rfl rfl (Nat.le_of_ble_eq_true rfl) (Nat.le_of_ble_eq_true rfl) (Nat.le_of_ble_eq_true rfl) (Nat.le_of_ble_eq_true rfl) (Nat.le_of_ble_eq_true rfl) dX1_follows_2 (fun v w1 hp => ?_)
  obtain ⟨rfl, rfl⟩ := hp
  refine g_nrm (cs1 := [[(o, ob 0 [.ref n])], [(n, ob 1 [.ref lm, .ref lb, .ref lr, .int (nLo P), .int (nNow P)])], wm, wM]) (st1 := [.ref m2]) rfl rfl ?_
  refine g_pop hX (pc := 5) dX1_follows_5 rfl ?_
  refine g_aload_n hX (pc := 6) dX1_follows_6 0 rfl ?_
  refine g_iload_n hX (pc := 7) dX1_follows_7 2 rfl ?_
  refine gx_callV hX (pc := 8) kX1_machineAt (mx_Q_machineAt E l hl0 o n lm lb lr (nLo P) (nNow P) mas wm i hAm (hb)) q1360 fcX1 (sp_mem (i := 0) rfl) [0, 0, 0] rfl rfl rfl (Nat.le_of_ble_eq_true rfl) (Nat.le_of_ble_eq_true rfl) (Nat.le_of_ble_eq_true rfl) (Nat.le_of_ble_eq_true rfl) (Nat.le_of_ble_eq_true rfl) dX1_follows_8 (fun C q w1 hp => ?_) (fun v w1 hp => hp.elim)
  obtain ⟨rfl, rfl⟩ := hp
  exact gx_out hX hR hT (Nat.le_of_ble_eq_true rfl) (Nat.le_of_ble_eq_true rfl) ⟨rfl, rfl⟩

set_option maxHeartbeats 4000000 in
theorem mx_Q_stored_P2 (E : EE) (l : Launch) (hl0 : l.stackTraces = false) (o : Nat) (n : Nat) (lm : Nat) (lb : Nat) (lr : Nat) (P : PN) (wm : va_W) (wM : va_W) (fz : va_W) (k : Nat) (v : Int32) (x : Int32) (hML : ML E fz lm (nM P) wm wM) (h5 : ((nM P).length ≤ 5)) (hk : (k < (nM P).length)) (hb : (v < 0 ∨ ¬ v < 4)) : Mx E l yX1_stored cX1_stored 5 (some .int) 7 1 6 107 [.ref o, .int (nI k), .int v, .int x] [[(o, ob 0 [.ref n])], [(n, ob 1 [.ref lm, .ref lb, .ref lr, .int (nLo P), .int (nNow P)])], wm, wM] (fun (_ : Option Value) (_ : List va_W) => False) (fun (C_ : String) (cs_ : List va_W) => C_ = "java/lang/IndexOutOfBoundsException" ∧ cs_ = [[(o, ob 0 [.ref n])], [(n, ob 1 [.ref lm, .ref lb, .ref lr, .int (nLo P), .int (nNow P)])], wm, wM]) := by
  refine Mx.of (by decide) (Nat.le_of_ble_eq_true rfl) (fun X hX hR hT => ?_)
  refine g_lv1 (lv1 := [(0, .ref o), (1, .int (nI k)), (2, .int v), (3, .int x)]) rfl ?_
  refine g_aload_n hX (pc := 0) dX1_stored_0 0 rfl ?_
  refine g_iload_n hX (pc := 1) dX1_stored_1 1 rfl ?_
  obtain ⟨M7, hgM7⟩ := get_ex (l := (nM P)) (i := k) (hk)
  obtain ⟨mas1, m2, hAm3, hml4, hmk5, hMI6⟩ := ML.at hML hgM7
  obtain ⟨rn8, rk9, rl10, rs11, rst12, la13, sp14, lb15, sp216, fn17, fk18, m019, arr20, m121, arr122, h123, h224, h325, h426, h527, h628, h729, hn30⟩ := hMI6.peek
  refine g_callV hX (pc := 2) kX1_machineAt (mt_Q_machineAtI E l o n lm lb lr (nLo P) (nNow P) mas1 wm k m2 M7 fz wM hAm3 hMI6 (hmk5) (by omega)) q1360 fcX1 (sp_mem (i := 0) rfl) [0, 0, 0, 0] rfl rfl rfl (Nat.le_of_ble_eq_true rfl) (Nat.le_of_ble_eq_true rfl) (Nat.le_of_ble_eq_true rfl) (Nat.le_of_ble_eq_true rfl) (Nat.le_of_ble_eq_true rfl) dX1_stored_2 (fun v w1 hp => ?_)
  obtain ⟨rfl, rfl⟩ := hp
  refine g_nrm (cs1 := [[(o, ob 0 [.ref n])], [(n, ob 1 [.ref lm, .ref lb, .ref lr, .int (nLo P), .int (nNow P)])], wm, wM]) (st1 := [.ref m2]) rfl rfl ?_
  refine g_astore hX (pc := 5) (lv1 := [(4, .ref m2), (0, .ref o), (1, .int (nI k)), (2, .int v), (3, .int x)]) dX1_stored_5 (by decide) rfl ?_
  refine g_iload_n hX (pc := 7) dX1_stored_7 3 rfl ?_
  refine g_iconst hX (pc := 8) (v := 4) dX1_stored_8 (by decide) ?_
  refine gx_callS hX (pc := 9) kX1_checkPlace (mx_checkPlace E l hl0 v 4 (hb)) q1364 [] rfl rfl rfl (Nat.le_of_ble_eq_true rfl) (Nat.le_of_ble_eq_true rfl) (Nat.le_of_ble_eq_true rfl) (Nat.le_of_ble_eq_true rfl) (Nat.le_of_ble_eq_true rfl) dX1_stored_9 (fun C q w1 hp => ?_) (fun v w1 hp => hp.elim)
  obtain ⟨rfl, rfl⟩ := hp
  exact gx_out hX hR hT (Nat.le_of_ble_eq_true rfl) (Nat.le_of_ble_eq_true rfl) ⟨rfl, rfl⟩

set_option maxHeartbeats 4000000 in
theorem mx_Q_stored_A (E : EE) (l : Launch) (hl0 : l.stackTraces = false) (o : Nat) (n : Nat) (lm : Nat) (lb : Nat) (lr : Nat) (P : PN) (wm : va_W) (wM : va_W) (fz : va_W) (k : Nat) (ky : Nat) (v : Int32) (hML : ML E fz lm (nM P) wm wM) (h5 : ((nM P).length ≤ 5)) (hk : (k < (nM P).length)) (hy : (ky < 4)) (hb : (v < 0 ∨ 4 < v)) : Mx E l yX1_stored cX1_stored 5 (some .int) 8 1 6 123 [.ref o, .int (nI k), .int (nI ky), .int v] [[(o, ob 0 [.ref n])], [(n, ob 1 [.ref lm, .ref lb, .ref lr, .int (nLo P), .int (nNow P)])], wm, wM] (fun (_ : Option Value) (_ : List va_W) => False) (fun (C_ : String) (cs_ : List va_W) => C_ = "java/lang/IllegalArgumentException" ∧ cs_ = [[(o, ob 0 [.ref n])], [(n, ob 1 [.ref lm, .ref lb, .ref lr, .int (nLo P), .int (nNow P)])], wm, wM]) := by
  refine Mx.of (by decide) (Nat.le_of_ble_eq_true rfl) (fun X hX hR hT => ?_)
  refine g_lv1 (lv1 := [(0, .ref o), (1, .int (nI k)), (2, .int (nI ky)), (3, .int v)]) rfl ?_
  refine g_aload_n hX (pc := 0) dX1_stored_0 0 rfl ?_
  refine g_iload_n hX (pc := 1) dX1_stored_1 1 rfl ?_
  obtain ⟨M7, hgM7⟩ := get_ex (l := (nM P)) (i := k) (hk)
  obtain ⟨mas1, m2, hAm3, hml4, hmk5, hMI6⟩ := ML.at hML hgM7
  obtain ⟨rn8, rk9, rl10, rs11, rst12, la13, sp14, lb15, sp216, fn17, fk18, m019, arr20, m121, arr122, h123, h224, h325, h426, h527, h628, h729, hn30⟩ := hMI6.peek
  refine g_callV hX (pc := 2) kX1_machineAt (mt_Q_machineAtI E l o n lm lb lr (nLo P) (nNow P) mas1 wm k m2 M7 fz wM hAm3 hMI6 (hmk5) (by omega)) q1360 fcX1 (sp_mem (i := 0) rfl) [0, 0, 0, 0] rfl rfl rfl (Nat.le_of_ble_eq_true rfl) (Nat.le_of_ble_eq_true rfl) (Nat.le_of_ble_eq_true rfl) (Nat.le_of_ble_eq_true rfl) (Nat.le_of_ble_eq_true rfl) dX1_stored_2 (fun v w1 hp => ?_)
  obtain ⟨rfl, rfl⟩ := hp
  refine g_nrm (cs1 := [[(o, ob 0 [.ref n])], [(n, ob 1 [.ref lm, .ref lb, .ref lr, .int (nLo P), .int (nNow P)])], wm, wM]) (st1 := [.ref m2]) rfl rfl ?_
  refine g_astore hX (pc := 5) (lv1 := [(4, .ref m2), (0, .ref o), (1, .int (nI k)), (2, .int (nI ky)), (3, .int v)]) dX1_stored_5 (by decide) rfl ?_
  refine g_iload_n hX (pc := 7) dX1_stored_7 3 rfl ?_
  refine g_iconst hX (pc := 8) (v := 4) dX1_stored_8 (by decide) ?_
  refine g_callS hX (pc := 9) kX1_checkPlace (mt_checkPlace E l (nI ky) 4 (nI_pos (by omega)) (show nI ky < nI 4 from nI_lt hy (by omega))) q1364 [] rfl rfl rfl (Nat.le_of_ble_eq_true rfl) (Nat.le_of_ble_eq_true rfl) (Nat.le_of_ble_eq_true rfl) (Nat.le_of_ble_eq_true rfl) (Nat.le_of_ble_eq_true rfl) dX1_stored_9 (fun v w1 hp => ?_)
  obtain ⟨rfl, rfl⟩ := hp
  refine g_nrm (cs1 := [[(o, ob 0 [.ref n])], [(n, ob 1 [.ref lm, .ref lb, .ref lr, .int (nLo P), .int (nNow P)])], wm, wM]) (st1 := []) rfl rfl ?_
  refine g_iload_n hX (pc := 12) dX1_stored_12 4 rfl ?_
  refine g_iconst hX (pc := 13) (v := 0) dX1_stored_13 (by decide) ?_
  refine g_iconst hX (pc := 14) (v := 4) dX1_stored_14 (by decide) ?_
  refine gx_callS hX (pc := 15) kX1_mustBeIn (mx_mustBeIn E l hl0 v 0 4 (hb)) q1308 [] rfl rfl rfl (Nat.le_of_ble_eq_true rfl) (Nat.le_of_ble_eq_true rfl) (Nat.le_of_ble_eq_true rfl) (Nat.le_of_ble_eq_true rfl) (Nat.le_of_ble_eq_true rfl) dX1_stored_15 (fun C q w1 hp => ?_) (fun v w1 hp => hp.elim)
  obtain ⟨rfl, rfl⟩ := hp
  exact gx_out hX hR hT (Nat.le_of_ble_eq_true rfl) (Nat.le_of_ble_eq_true rfl) ⟨rfl, rfl⟩

set_option maxHeartbeats 4000000 in
theorem mx_Q_entry_P2 (E : EE) (l : Launch) (hl0 : l.stackTraces = false) (o : Nat) (n : Nat) (lm : Nat) (lb : Nat) (lr : Nat) (P : PN) (wm : va_W) (wM : va_W) (fz : va_W) (k : Nat) (v : Int32) (x : Int32) (hML : ML E fz lm (nM P) wm wM) (h5 : ((nM P).length ≤ 5)) (hk : (k < (nM P).length)) (hb : (¬ (nI (lB (mL (mAt P k))) < v ∧ v ≤ nI (lLast (mL (mAt P k)))))) : Mx E l yX1_entry cX1_entry 5 (some .int) 7 1 6 107 [.ref o, .int (nI k), .int v, .int x] [[(o, ob 0 [.ref n])], [(n, ob 1 [.ref lm, .ref lb, .ref lr, .int (nLo P), .int (nNow P)])], wm, wM] (fun (_ : Option Value) (_ : List va_W) => False) (fun (C_ : String) (cs_ : List va_W) => C_ = "java/lang/IndexOutOfBoundsException" ∧ cs_ = [[(o, ob 0 [.ref n])], [(n, ob 1 [.ref lm, .ref lb, .ref lr, .int (nLo P), .int (nNow P)])], wm, wM]) := by
  refine Mx.of (by decide) (Nat.le_of_ble_eq_true rfl) (fun X hX hR hT => ?_)
  refine g_lv1 (lv1 := [(0, .ref o), (1, .int (nI k)), (2, .int v), (3, .int x)]) rfl ?_
  refine g_aload_n hX (pc := 0) dX1_entry_0 0 rfl ?_
  refine g_iload_n hX (pc := 1) dX1_entry_1 1 rfl ?_
  obtain ⟨M7, hgM7⟩ := get_ex (l := (nM P)) (i := k) (hk)
  obtain ⟨mas1, m2, hAm3, hml4, hmk5, hMI6⟩ := ML.at hML hgM7
  obtain ⟨rn8, rk9, rl10, rs11, rst12, la13, sp14, lb15, sp216, fn17, fk18, m019, arr20, m121, arr122, h123, h224, h325, h426, h527, h628, h729, hn30⟩ := hMI6.peek
  refine g_callV hX (pc := 2) kX1_machineAt (mt_Q_machineAtI E l o n lm lb lr (nLo P) (nNow P) mas1 wm k m2 M7 fz wM hAm3 hMI6 (hmk5) (by omega)) q1360 fcX1 (sp_mem (i := 0) rfl) [0, 0, 0, 0] rfl rfl rfl (Nat.le_of_ble_eq_true rfl) (Nat.le_of_ble_eq_true rfl) (Nat.le_of_ble_eq_true rfl) (Nat.le_of_ble_eq_true rfl) (Nat.le_of_ble_eq_true rfl) dX1_entry_2 (fun v w1 hp => ?_)
  obtain ⟨rfl, rfl⟩ := hp
  refine g_nrm (cs1 := [[(o, ob 0 [.ref n])], [(n, ob 1 [.ref lm, .ref lb, .ref lr, .int (nLo P), .int (nNow P)])], wm, wM]) (st1 := [.ref m2]) rfl rfl ?_
  refine g_getNm hX (pc := 5) fcX9 (sp_in 3 rfl h123) 3 (by decide) q934 rfl (v := .ref rl10) rfl dX1_entry_5 ?_
  refine g_astore hX (pc := 8) (lv1 := [(4, .ref rl10), (0, .ref o), (1, .int (nI k)), (2, .int v), (3, .int x)]) dX1_entry_8 (by decide) rfl ?_
  refine g_aload hX (pc := 10) dX1_entry_10 0 rfl ?_
  refine g_iload_n hX (pc := 12) dX1_entry_12 3 rfl ?_
  refine g_callV hX (pc := 13) kX10_has (mt_Log_hasM E l rl10 la13 (lT (mL M7)) (lV (mL M7)) (lB (mL M7)) (lBT (mL M7)) sp14 m019 arr20 (List.length (lE (mL M7))) wM v (h224) (h325)) q1524 fcX10 (sp_in 3 rfl h224) [3] rfl rfl rfl (Nat.le_of_ble_eq_true rfl) (Nat.le_of_ble_eq_true rfl) (Nat.le_of_ble_eq_true rfl) (Nat.le_of_ble_eq_true rfl) (Nat.le_of_ble_eq_true rfl) dX1_entry_13 (fun v w1 hp => ?_)
  obtain ⟨rfl, rfl⟩ := hp
  refine g_nrm (cs1 := [wM, [(o, ob 0 [.ref n])], [(n, ob 1 [.ref lm, .ref lb, .ref lr, .int (nLo P), .int (nNow P)])], wm]) (st1 := [.int (if nI (lB (mL M7)) < v ∧ v ≤ nI ((lB (mL M7)) + (List.length (lE (mL M7)))) then 1 else 0)]) rfl rfl ?_
  refine g_eqi 0 (if_neg (by rw [← mAt_get hgM7]; exact hb)) ?_
  refine g_if_eq hX (pc := 16) (tgt := 23) dX1_entry_16 rfl (fun c31 => ?_) (fun c31 => ?_)
  · refine g_iconst hX (pc := 23) (v := (-1)) dX1_entry_23 (by decide) ?_
    refine g_iconst hX (pc := 24) (v := 1) dX1_entry_24 (by decide) ?_
    refine gx_callS hX (pc := 25) kX1_checkPlace (mx_checkPlace E l hl0 (-1) 1 (Or.inl (by decide))) q1364 [] rfl rfl rfl (Nat.le_of_ble_eq_true rfl) (Nat.le_of_ble_eq_true rfl) (Nat.le_of_ble_eq_true rfl) (Nat.le_of_ble_eq_true rfl) (Nat.le_of_ble_eq_true rfl) dX1_entry_25 (fun C q w1 hp => ?_) (fun v w1 hp => hp.elim)
    obtain ⟨rfl, rfl⟩ := hp
    refine gx_pk [1, 1, 1, 0] rfl ?_
    exact gx_out hX hR hT (Nat.le_of_ble_eq_true rfl) (Nat.le_of_ble_eq_true rfl) ⟨rfl, rfl⟩
  · exact absurd c31 (by decide)

set_option maxHeartbeats 4000000 in
theorem mx_Q_entry_A (E : EE) (l : Launch) (hl0 : l.stackTraces = false) (o : Nat) (n : Nat) (lm : Nat) (lb : Nat) (lr : Nat) (P : PN) (wm : va_W) (wM : va_W) (fz : va_W) (k : Nat) (v : Int32) (x : Int32) (hML : ML E fz lm (nM P) wm wM) (h5 : ((nM P).length ≤ 5)) (hk : (k < (nM P).length)) (hn : (nI (lB (mL (mAt P k))) < v ∧ v ≤ nI (lLast (mL (mAt P k))))) (hb : (x < 0 ∨ 1 < x)) : Mx E l yX1_entry cX1_entry 5 (some .int) 8 1 6 123 [.ref o, .int (nI k), .int v, .int x] [[(o, ob 0 [.ref n])], [(n, ob 1 [.ref lm, .ref lb, .ref lr, .int (nLo P), .int (nNow P)])], wm, wM] (fun (_ : Option Value) (_ : List va_W) => False) (fun (C_ : String) (cs_ : List va_W) => C_ = "java/lang/IllegalArgumentException" ∧ cs_ = [[(o, ob 0 [.ref n])], [(n, ob 1 [.ref lm, .ref lb, .ref lr, .int (nLo P), .int (nNow P)])], wm, wM]) := by
  refine Mx.of (by decide) (Nat.le_of_ble_eq_true rfl) (fun X hX hR hT => ?_)
  refine g_lv1 (lv1 := [(0, .ref o), (1, .int (nI k)), (2, .int v), (3, .int x)]) rfl ?_
  refine g_aload_n hX (pc := 0) dX1_entry_0 0 rfl ?_
  refine g_iload_n hX (pc := 1) dX1_entry_1 1 rfl ?_
  obtain ⟨M7, hgM7⟩ := get_ex (l := (nM P)) (i := k) (hk)
  obtain ⟨mas1, m2, hAm3, hml4, hmk5, hMI6⟩ := ML.at hML hgM7
  obtain ⟨rn8, rk9, rl10, rs11, rst12, la13, sp14, lb15, sp216, fn17, fk18, m019, arr20, m121, arr122, h123, h224, h325, h426, h527, h628, h729, hn30⟩ := hMI6.peek
  refine g_callV hX (pc := 2) kX1_machineAt (mt_Q_machineAtI E l o n lm lb lr (nLo P) (nNow P) mas1 wm k m2 M7 fz wM hAm3 hMI6 (hmk5) (by omega)) q1360 fcX1 (sp_mem (i := 0) rfl) [0, 0, 0, 0] rfl rfl rfl (Nat.le_of_ble_eq_true rfl) (Nat.le_of_ble_eq_true rfl) (Nat.le_of_ble_eq_true rfl) (Nat.le_of_ble_eq_true rfl) (Nat.le_of_ble_eq_true rfl) dX1_entry_2 (fun v w1 hp => ?_)
  obtain ⟨rfl, rfl⟩ := hp
  refine g_nrm (cs1 := [[(o, ob 0 [.ref n])], [(n, ob 1 [.ref lm, .ref lb, .ref lr, .int (nLo P), .int (nNow P)])], wm, wM]) (st1 := [.ref m2]) rfl rfl ?_
  refine g_getNm hX (pc := 5) fcX9 (sp_in 3 rfl h123) 3 (by decide) q934 rfl (v := .ref rl10) rfl dX1_entry_5 ?_
  refine g_astore hX (pc := 8) (lv1 := [(4, .ref rl10), (0, .ref o), (1, .int (nI k)), (2, .int v), (3, .int x)]) dX1_entry_8 (by decide) rfl ?_
  refine g_aload hX (pc := 10) dX1_entry_10 0 rfl ?_
  refine g_iload_n hX (pc := 12) dX1_entry_12 3 rfl ?_
  refine g_callV hX (pc := 13) kX10_has (mt_Log_hasM E l rl10 la13 (lT (mL M7)) (lV (mL M7)) (lB (mL M7)) (lBT (mL M7)) sp14 m019 arr20 (List.length (lE (mL M7))) wM v (h224) (h325)) q1524 fcX10 (sp_in 3 rfl h224) [3] rfl rfl rfl (Nat.le_of_ble_eq_true rfl) (Nat.le_of_ble_eq_true rfl) (Nat.le_of_ble_eq_true rfl) (Nat.le_of_ble_eq_true rfl) (Nat.le_of_ble_eq_true rfl) dX1_entry_13 (fun v w1 hp => ?_)
  obtain ⟨rfl, rfl⟩ := hp
  refine g_nrm (cs1 := [wM, [(o, ob 0 [.ref n])], [(n, ob 1 [.ref lm, .ref lb, .ref lr, .int (nLo P), .int (nNow P)])], wm]) (st1 := [.int (if nI (lB (mL M7)) < v ∧ v ≤ nI ((lB (mL M7)) + (List.length (lE (mL M7)))) then 1 else 0)]) rfl rfl ?_
  refine g_eqi 1 (if_pos (by rw [← mAt_get hgM7]; exact hn)) ?_
  refine g_if_eq hX (pc := 16) (tgt := 23) dX1_entry_16 rfl (fun c31 => ?_) (fun c31 => ?_)
  · exact absurd c31 (by decide)
  · refine g_iconst hX (pc := 19) (v := 0) dX1_entry_19 (by decide) ?_
    refine g_goto hX (pc := 20) (tgt := 24) dX1_entry_20 rfl ?_
    refine g_iconst hX (pc := 24) (v := 1) dX1_entry_24 (by decide) ?_
    refine g_callS hX (pc := 25) kX1_checkPlace (mt_checkPlace E l 0 1 (by decide) (by decide)) q1364 [] rfl rfl rfl (Nat.le_of_ble_eq_true rfl) (Nat.le_of_ble_eq_true rfl) (Nat.le_of_ble_eq_true rfl) (Nat.le_of_ble_eq_true rfl) (Nat.le_of_ble_eq_true rfl) dX1_entry_25 (fun v w1 hp => ?_)
    obtain ⟨rfl, rfl⟩ := hp
    refine g_nrm (cs1 := [wM, [(o, ob 0 [.ref n])], [(n, ob 1 [.ref lm, .ref lb, .ref lr, .int (nLo P), .int (nNow P)])], wm]) (st1 := []) rfl rfl ?_
    refine g_iload_n hX (pc := 28) dX1_entry_28 4 rfl ?_
    refine g_iconst hX (pc := 29) (v := 0) dX1_entry_29 (by decide) ?_
    refine g_iconst hX (pc := 30) (v := 1) dX1_entry_30 (by decide) ?_
    refine gx_callS hX (pc := 31) kX1_mustBeIn (mx_mustBeIn E l hl0 x 0 1 (hb)) q1308 [] rfl rfl rfl (Nat.le_of_ble_eq_true rfl) (Nat.le_of_ble_eq_true rfl) (Nat.le_of_ble_eq_true rfl) (Nat.le_of_ble_eq_true rfl) (Nat.le_of_ble_eq_true rfl) dX1_entry_31 (fun C q w1 hp => ?_) (fun v w1 hp => hp.elim)
    obtain ⟨rfl, rfl⟩ := hp
    refine gx_pk [1, 1, 1, 0] rfl ?_
    exact gx_out hX hR hT (Nat.le_of_ble_eq_true rfl) (Nat.le_of_ble_eq_true rfl) ⟨rfl, rfl⟩

set_option maxHeartbeats 4000000 in
theorem mx_Q_message_A (E : EE) (l : Launch) (hl0 : l.stackTraces = false) (o : Nat) (n : Nat) (lm : Nat) (lb : Nat) (lr : Nat) (P : PN) (wb : va_W) (fz : va_W) (i : Nat) (g : PMg) (v : Int32) (hB : BL E fz lb (nB P) wb) (hi : ((nB P)[i]? = some g)) (h30 : ((nB P).length ≤ 30)) (hb : (v < 0 ∨ 6 < v)) : Mx E l yX1_message cX1_message 4 (some .int) 8 1 6 123 [.ref o, .int (nI i), .int v] [[(o, ob 0 [.ref n])], [(n, ob 1 [.ref lm, .ref lb, .ref lr, .int (nLo P), .int (nNow P)])], wb, fz] (fun (_ : Option Value) (_ : List va_W) => False) (fun (C_ : String) (cs_ : List va_W) => C_ = "java/lang/IllegalArgumentException" ∧ cs_ = [[(o, ob 0 [.ref n])], [(n, ob 1 [.ref lm, .ref lb, .ref lr, .int (nLo P), .int (nNow P)])], wb, fz]) := by
  obtain ⟨bas, a, hAb, hbl, hba, hg, hbo, hBc⟩ := bl_focus hB hi
  have hn30 : bas.length ≤ 30 := by omega
  refine Mx.of (by decide) (Nat.le_of_ble_eq_true rfl) (fun X hX hR hT => ?_)
  refine g_lv1 (lv1 := [(0, .ref o), (1, .int (nI i)), (2, .int v)]) rfl ?_
  refine g_aload_n hX (pc := 0) dX1_message_0 0 rfl ?_
  refine g_iload_n hX (pc := 1) dX1_message_1 1 rfl ?_
  refine g_callV hX (pc := 2) kX1_messageAt (mt_Q_messageAt E l o n lm lb lr (nLo P) (nNow P) bas wb fz i a g hAb (hba) (hn30) hg) q1400 fcX1 (sp_mem (i := 0) rfl) [0, 0, 0, 0] rfl rfl rfl (Nat.le_of_ble_eq_true rfl) (Nat.le_of_ble_eq_true rfl) (Nat.le_of_ble_eq_true rfl) (Nat.le_of_ble_eq_true rfl) (Nat.le_of_ble_eq_true rfl) dX1_message_2 (fun v w1 hp => ?_)
  obtain ⟨rfl, rfl⟩ := hp
  refine g_nrm (cs1 := [[(o, ob 0 [.ref n])], [(n, ob 1 [.ref lm, .ref lb, .ref lr, .int (nLo P), .int (nNow P)])], wb, fz]) (st1 := [.ref a]) rfl rfl ?_
  refine g_astore_n hX (pc := 5) (lv1 := [(3, .ref a), (0, .ref o), (1, .int (nI i)), (2, .int v)]) dX1_message_5 (by decide) rfl ?_
  refine g_iload_n hX (pc := 6) dX1_message_6 3 rfl ?_
  refine g_iconst hX (pc := 7) (v := 0) dX1_message_7 (by decide) ?_
  refine g_bipush hX (pc := 8) (v := 6) dX1_message_8 (by decide) ?_
  refine gx_callS hX (pc := 10) kX1_mustBeIn (mx_mustBeIn E l hl0 v 0 6 (hb)) q1308 [] rfl rfl rfl (Nat.le_of_ble_eq_true rfl) (Nat.le_of_ble_eq_true rfl) (Nat.le_of_ble_eq_true rfl) (Nat.le_of_ble_eq_true rfl) (Nat.le_of_ble_eq_true rfl) dX1_message_10 (fun C q w1 hp => ?_) (fun v w1 hp => hp.elim)
  obtain ⟨rfl, rfl⟩ := hp
  exact gx_out hX hR hT (Nat.le_of_ble_eq_true rfl) (Nat.le_of_ble_eq_true rfl) ⟨rfl, rfl⟩

set_option maxHeartbeats 4000000 in
theorem mx_Q_ofRequest_A (E : EE) (l : Launch) (hl0 : l.stackTraces = false) (o : Nat) (n : Nat) (lm : Nat) (lb : Nat) (lr : Nat) (P : PN) (wr : va_W) (wq : va_W) (j : Nat) (r : PR) (v : Int32) (hRq : RL E lr (nR P) wr wq) (hj : ((nR P)[j]? = some r)) (h40 : ((nR P).length ≤ 40)) (hb : (v < 0 ∨ 6 < v)) : Mx E l yX1_ofRequest cX1_ofRequest 4 (some .int) 8 1 6 123 [.ref o, .int (nI j), .int v] [[(o, ob 0 [.ref n])], [(n, ob 1 [.ref lm, .ref lb, .ref lr, .int (nLo P), .int (nNow P)])], wr, wq] (fun (_ : Option Value) (_ : List va_W) => False) (fun (C_ : String) (cs_ : List va_W) => C_ = "java/lang/IllegalArgumentException" ∧ cs_ = [[(o, ob 0 [.ref n])], [(n, ob 1 [.ref lm, .ref lb, .ref lr, .int (nLo P), .int (nNow P)])], wr, wq]) := by
  obtain ⟨ras, a, hAr, hrl, hra, hrm⟩ := RL.at hRq hj
  refine Mx.of (by decide) (Nat.le_of_ble_eq_true rfl) (fun X hX hR hT => ?_)
  refine g_lv1 (lv1 := [(0, .ref o), (1, .int (nI j)), (2, .int v)]) rfl ?_
  refine g_aload_n hX (pc := 0) dX1_ofRequest_0 0 rfl ?_
  refine g_iload_n hX (pc := 1) dX1_ofRequest_1 1 rfl ?_
  refine g_callV hX (pc := 2) kX1_requestAt (mt_Q_requestAt E l o n lm lb lr (nLo P) (nNow P) ras wr wq j a r hAr (hra) (by omega) (hrm)) q1437 fcX1 (sp_mem (i := 0) rfl) [0, 0, 0, 0] rfl rfl rfl (Nat.le_of_ble_eq_true rfl) (Nat.le_of_ble_eq_true rfl) (Nat.le_of_ble_eq_true rfl) (Nat.le_of_ble_eq_true rfl) (Nat.le_of_ble_eq_true rfl) dX1_ofRequest_2 (fun v w1 hp => ?_)
  obtain ⟨rfl, rfl⟩ := hp
  refine g_nrm (cs1 := [[(o, ob 0 [.ref n])], [(n, ob 1 [.ref lm, .ref lb, .ref lr, .int (nLo P), .int (nNow P)])], wr, wq]) (st1 := [.ref a]) rfl rfl ?_
  refine g_astore_n hX (pc := 5) (lv1 := [(3, .ref a), (0, .ref o), (1, .int (nI j)), (2, .int v)]) dX1_ofRequest_5 (by decide) rfl ?_
  refine g_iload_n hX (pc := 6) dX1_ofRequest_6 3 rfl ?_
  refine g_iconst hX (pc := 7) (v := 0) dX1_ofRequest_7 (by decide) ?_
  refine g_bipush hX (pc := 8) (v := 6) dX1_ofRequest_8 (by decide) ?_
  refine gx_callS hX (pc := 10) kX1_mustBeIn (mx_mustBeIn E l hl0 v 0 6 (hb)) q1308 [] rfl rfl rfl (Nat.le_of_ble_eq_true rfl) (Nat.le_of_ble_eq_true rfl) (Nat.le_of_ble_eq_true rfl) (Nat.le_of_ble_eq_true rfl) (Nat.le_of_ble_eq_true rfl) dX1_ofRequest_10 (fun C q w1 hp => ?_) (fun v w1 hp => hp.elim)
  obtain ⟨rfl, rfl⟩ := hp
  exact gx_out hX hR hT (Nat.le_of_ble_eq_true rfl) (Nat.le_of_ble_eq_true rfl) ⟨rfl, rfl⟩

set_option maxHeartbeats 4000000 in
theorem mx_Q_machine (E : EE) (l : Launch) (hl0 : l.stackTraces = false) (o : Nat) (n : Nat) (lm : Nat) (lb : Nat) (lr : Nat) (P : PN) (wm : va_W) (wM : va_W) (wr : va_W) (wq : va_W) (fz : va_W) (hML : ML E fz lm (nM P) wm wM) (hRq : RL E lr (nR P) wr wq) (h5 : ((nM P).length ≤ 5)) (h40 : ((nR P).length ≤ 40)) (hb : (¬ ((nM P).length < 5 ∧ nNow P = 0 ∧ (nR P).length = 0))) : Mx E l yX1_machine cX1_machine 2 (some .int) 7 1 6 101 [.ref o] [[(o, ob 0 [.ref n])], [(n, ob 1 [.ref lm, .ref lb, .ref lr, .int (nLo P), .int (nNow P)])], wm, wr] (fun (_ : Option Value) (_ : List va_W) => False) (fun (C_ : String) (cs_ : List va_W) => C_ = "java/lang/IllegalStateException" ∧ cs_ = [[(o, ob 0 [.ref n])], [(n, ob 1 [.ref lm, .ref lb, .ref lr, .int (nLo P), .int (nNow P)])], wm, wr]) := by
  obtain ⟨mas, hAm, hml⟩ := ML.al hML
  obtain ⟨ras, hAr, hrl⟩ := RL.al hRq
  refine Mx.of (by decide) (Nat.le_of_ble_eq_true rfl) (fun X hX hR hT => ?_)
  refine g_lv1 (lv1 := [(0, .ref o)]) rfl ?_
  refine g_aload_n hX (pc := 0) dX1_machine_0 0 rfl ?_
  refine g_get hX (pc := 1) fcX1 0 rfl 0 (by decide) q176 rfl (v := .ref n) rfl dX1_machine_1 ?_
  refine g_getN hX (pc := 4) fcX2 1 rfl 0 (by decide) q156 rfl (v := .ref lm) rfl dX1_machine_4 ?_
  obtain ⟨fs1, hm2⟩ := AL.head hAm
  refine g_callF hX (pc := 7) kfJ2_size (mt_AL_size E l lm mas wm hAm) q738 fcJ2 (sp_in 2 rfl hm2) [2] rfl rfl rfl (Nat.le_of_ble_eq_true rfl) (Nat.le_of_ble_eq_true rfl) (Nat.le_of_ble_eq_true rfl) (Nat.le_of_ble_eq_true rfl) (Nat.le_of_ble_eq_true rfl) dX1_machine_7 (fun v w1 hp => ?_)
  obtain ⟨rfl, rfl⟩ := hp
  refine g_nrm (cs1 := [wm, [(o, ob 0 [.ref n])], [(n, ob 1 [.ref lm, .ref lb, .ref lr, .int (nLo P), .int (nNow P)])], wr]) (st1 := [.int (nI (List.length mas))]) rfl rfl ?_
  refine g_eqi (nI (List.length (nM P))) (by rw [hml]) ?_
  refine g_iconst hX (pc := 12) (v := 5) dX1_machine_12 (by decide) ?_
  refine g_icmp_ge hX (pc := 13) (tgt := 45) dX1_machine_13 rfl (fun c3 => ?_) (fun c3 => ?_)
  · refine g_iconst hX (pc := 45) (v := 0) dX1_machine_45 (by decide) ?_
    refine gx_callS hX (pc := 46) kX1_checkState (mx_checkState E l hl0 ) q1268 [] rfl rfl rfl (Nat.le_of_ble_eq_true rfl) (Nat.le_of_ble_eq_true rfl) (Nat.le_of_ble_eq_true rfl) (Nat.le_of_ble_eq_true rfl) (Nat.le_of_ble_eq_true rfl) dX1_machine_46 (fun C q w1 hp => ?_) (fun v w1 hp => hp.elim)
    obtain ⟨rfl, rfl⟩ := hp
    refine gx_pk [1, 1, 0, 0] rfl ?_
    exact gx_out hX hR hT (Nat.le_of_ble_eq_true rfl) (Nat.le_of_ble_eq_true rfl) ⟨rfl, rfl⟩
  · have d1 : (nM P).length < 5 := by
      have h1 := c3
      rw [show (5 : Int32) = nI 5 from rfl] at h1
      have := mt (nI_leI (by omega) (by omega)).mpr h1
      omega
    refine g_aload_n hX (pc := 16) dX1_machine_16 0 rfl ?_
    refine g_get hX (pc := 17) fcX1 1 rfl 0 (by decide) q176 rfl (v := .ref n) rfl dX1_machine_17 ?_
    refine g_getN hX (pc := 20) fcX2 2 rfl 4 (by decide) q164 rfl (v := .int (nNow P)) rfl dX1_machine_20 ?_
    refine g_if_ne hX (pc := 23) (tgt := 45) dX1_machine_23 rfl (fun c4 => ?_) (fun c4 => ?_)
    · refine g_iconst hX (pc := 45) (v := 0) dX1_machine_45 (by decide) ?_
      refine gx_callS hX (pc := 46) kX1_checkState (mx_checkState E l hl0 ) q1268 [] rfl rfl rfl (Nat.le_of_ble_eq_true rfl) (Nat.le_of_ble_eq_true rfl) (Nat.le_of_ble_eq_true rfl) (Nat.le_of_ble_eq_true rfl) (Nat.le_of_ble_eq_true rfl) dX1_machine_46 (fun C q w1 hp => ?_) (fun v w1 hp => hp.elim)
      obtain ⟨rfl, rfl⟩ := hp
      refine gx_pk [1, 1, 0, 0] rfl ?_
      exact gx_out hX hR hT (Nat.le_of_ble_eq_true rfl) (Nat.le_of_ble_eq_true rfl) ⟨rfl, rfl⟩
    · refine g_aload_n hX (pc := 26) dX1_machine_26 0 rfl ?_
      refine g_get hX (pc := 27) fcX1 1 rfl 0 (by decide) q176 rfl (v := .ref n) rfl dX1_machine_27 ?_
      refine g_getN hX (pc := 30) fcX2 2 rfl 2 (by decide) q160 rfl (v := .ref lr) rfl dX1_machine_30 ?_
      obtain ⟨fs5, hm6⟩ := AL.head hAr
      refine g_callF hX (pc := 33) kfJ2_isEmpty (mt_AL_isEmpty E l lr ras wr hAr (by omega)) q1255 fcJ2 (sp_in 3 rfl hm6) [3] rfl rfl rfl (Nat.le_of_ble_eq_true rfl) (Nat.le_of_ble_eq_true rfl) (Nat.le_of_ble_eq_true rfl) (Nat.le_of_ble_eq_true rfl) (Nat.le_of_ble_eq_true rfl) dX1_machine_33 (fun v w1 hp => ?_)
      obtain ⟨rfl, rfl⟩ := hp
      refine g_nrm (cs1 := [wr, wm, [(o, ob 0 [.ref n])], [(n, ob 1 [.ref lm, .ref lb, .ref lr, .int (nLo P), .int (nNow P)])]]) (st1 := [.int (if List.length ras = 0 then 1 else 0)]) rfl rfl ?_
      refine g_val (v := if List.length ras = 0 then 1 else 0) (pcJ := 46) (st1 := []) (fun hj7 => ?_) ?_
      · refine g_if_eq hX (pc := 38) (tgt := 45) dX1_machine_38 rfl (fun c8_ => ?_) (fun c8_ => ?_)
        · have c8 := z10.mp c8_
          refine g_iconst hX (pc := 45) (v := 0) dX1_machine_45 (by decide) ?_
          exact hj7 _ (by rw [if_neg c8])
        · have c8 := z10n.mp c8_
          refine g_iconst hX (pc := 41) (v := 1) dX1_machine_41 (by decide) ?_
          refine g_goto hX (pc := 42) (tgt := 46) dX1_machine_42 rfl ?_
          exact hj7 _ (by rw [if_pos c8])
      refine g_eqi 0 (if_neg (fun z => hb ⟨d1, c4, by omega⟩)) ?_
      refine gx_callS hX (pc := 46) kX1_checkState (mx_checkState E l hl0 ) q1268 [] rfl rfl rfl (Nat.le_of_ble_eq_true rfl) (Nat.le_of_ble_eq_true rfl) (Nat.le_of_ble_eq_true rfl) (Nat.le_of_ble_eq_true rfl) (Nat.le_of_ble_eq_true rfl) dX1_machine_46 (fun C q w1 hp => ?_) (fun v w1 hp => hp.elim)
      obtain ⟨rfl, rfl⟩ := hp
      refine gx_pk [2, 2, 1, 0] rfl ?_
      exact gx_out hX hR hT (Nat.le_of_ble_eq_true rfl) (Nat.le_of_ble_eq_true rfl) ⟨rfl, rfl⟩

set_option maxHeartbeats 4000000 in
theorem mx_Q_request_1 (E : EE) (l : Launch) (hl0 : l.stackTraces = false) (o : Nat) (n : Nat) (c : Int32) (kd : Int32) (ky : Int32) (a : Int32) (b : Int32) (hb0 : (c < 0 ∨ 3 < c)) : Mx E l yX1_request cX1_request 7 (some .int) 8 1 6 123 [.ref o, .int c, .int kd, .int ky, .int a, .int b] [[(o, ob 0 [.ref n])]] (fun (_ : Option Value) (_ : List va_W) => False) (fun (C_ : String) (cs_ : List va_W) => C_ = "java/lang/IllegalArgumentException" ∧ cs_ = [[(o, ob 0 [.ref n])]]) := by
  refine Mx.of (by decide) (Nat.le_of_ble_eq_true rfl) (fun X hX hR hT => ?_)
  refine g_lv1 (lv1 := [(0, .ref o), (1, .int c), (2, .int kd), (3, .int ky), (4, .int a), (5, .int b)]) rfl ?_
  refine g_iload_n hX (pc := 0) dX1_request_0 1 rfl ?_
  refine g_iconst hX (pc := 1) (v := 0) dX1_request_1 (by decide) ?_
  refine g_iconst hX (pc := 2) (v := 3) dX1_request_2 (by decide) ?_
  refine gx_callS hX (pc := 3) kX1_mustBeIn (mx_mustBeIn E l hl0 c 0 3 (hb0)) q1308 [] rfl rfl rfl (Nat.le_of_ble_eq_true rfl) (Nat.le_of_ble_eq_true rfl) (Nat.le_of_ble_eq_true rfl) (Nat.le_of_ble_eq_true rfl) (Nat.le_of_ble_eq_true rfl) dX1_request_3 (fun C q w1 hp => ?_) (fun v w1 hp => hp.elim)
  obtain ⟨rfl, rfl⟩ := hp
  exact gx_out hX hR hT (Nat.le_of_ble_eq_true rfl) (Nat.le_of_ble_eq_true rfl) ⟨rfl, rfl⟩

set_option maxHeartbeats 4000000 in
theorem mx_Q_request_2 (E : EE) (l : Launch) (hl0 : l.stackTraces = false) (o : Nat) (n : Nat) (c : Int32) (kd : Int32) (ky : Int32) (a : Int32) (b : Int32) (hc0 : (¬ c < 0)) (hc1 : (¬ 3 < c)) (hb0 : (kd < 0 ∨ 5 < kd)) : Mx E l yX1_request cX1_request 7 (some .int) 8 2 12 123 [.ref o, .int c, .int kd, .int ky, .int a, .int b] [[(o, ob 0 [.ref n])]] (fun (_ : Option Value) (_ : List va_W) => False) (fun (C_ : String) (cs_ : List va_W) => C_ = "java/lang/IllegalArgumentException" ∧ cs_ = [[(o, ob 0 [.ref n])]]) := by
  refine Mx.of (by decide) (Nat.le_of_ble_eq_true rfl) (fun X hX hR hT => ?_)
  refine g_lv1 (lv1 := [(0, .ref o), (1, .int c), (2, .int kd), (3, .int ky), (4, .int a), (5, .int b)]) rfl ?_
  refine g_iload_n hX (pc := 0) dX1_request_0 1 rfl ?_
  refine g_iconst hX (pc := 1) (v := 0) dX1_request_1 (by decide) ?_
  refine g_iconst hX (pc := 2) (v := 3) dX1_request_2 (by decide) ?_
  refine g_callS hX (pc := 3) kX1_mustBeIn (mt_mustBeIn E l c 0 3 (hc0) (hc1)) q1308 [] rfl rfl rfl (Nat.le_of_ble_eq_true rfl) (Nat.le_of_ble_eq_true rfl) (Nat.le_of_ble_eq_true rfl) (Nat.le_of_ble_eq_true rfl) (Nat.le_of_ble_eq_true rfl) dX1_request_3 (fun v w1 hp => ?_)
  obtain ⟨rfl, rfl⟩ := hp
  refine g_nrm (cs1 := [[(o, ob 0 [.ref n])]]) (st1 := []) rfl rfl ?_
  refine g_iload_n hX (pc := 6) dX1_request_6 2 rfl ?_
  refine g_iconst hX (pc := 7) (v := 0) dX1_request_7 (by decide) ?_
  refine g_callS hX (pc := 8) kX11_values (mt_Kind_values E l ) q1319 [] rfl rfl rfl (Nat.le_of_ble_eq_true rfl) (Nat.le_of_ble_eq_true rfl) (Nat.le_of_ble_eq_true rfl) (Nat.le_of_ble_eq_true rfl) (Nat.le_of_ble_eq_true rfl) dX1_request_8 (fun v w1 hp => ?_)
  obtain ⟨q1, rfl, rfl⟩ := hp
  refine g_nrm (cs1 := [[(q1, qA (aC E 6) 6 (fun i => some (aK E i)))], [(o, ob 0 [.ref n])]]) (st1 := [.ref q1, .int 0, .int kd]) rfl rfl ?_
  refine g_alen hX (pc := 11) (sp_mem (i := 0) rfl) 6 rfl (v := 6) rfl dX1_request_11 ?_
  refine g_iconst hX (pc := 12) (v := 1) dX1_request_12 (by decide) ?_
  refine g_isub hX (pc := 13) dX1_request_13 ?_
  refine g_eqi 5 (by decide) ?_
  refine g_drop (cs1 := [[(o, ob 0 [.ref n])]]) [0] rfl ?_
  refine gx_callS hX (pc := 14) kX1_mustBeIn (mx_mustBeIn E l hl0 kd 0 5 (hb0)) q1308 [] rfl rfl rfl (Nat.le_of_ble_eq_true rfl) (Nat.le_of_ble_eq_true rfl) (Nat.le_of_ble_eq_true rfl) (Nat.le_of_ble_eq_true rfl) (Nat.le_of_ble_eq_true rfl) dX1_request_14 (fun C q w1 hp => ?_) (fun v w1 hp => hp.elim)
  obtain ⟨rfl, rfl⟩ := hp
  exact gx_out hX hR hT (Nat.le_of_ble_eq_true rfl) (Nat.le_of_ble_eq_true rfl) ⟨rfl, rfl⟩

set_option maxHeartbeats 4000000 in
theorem mx_Q_request_3 (E : EE) (l : Launch) (hl0 : l.stackTraces = false) (o : Nat) (n : Nat) (c : Int32) (kd : Nat) (ky : Int32) (a : Int32) (b : Int32) (hc0 : (¬ c < 0)) (hc1 : (¬ 3 < c)) (hk : (kd < 6)) (hcan : (canB kd ky a b = false)) : Mx E l yX1_request cX1_request 7 (some .int) 7 3 18 101 [.ref o, .int c, .int (nI kd), .int ky, .int a, .int b] [[(o, ob 0 [.ref n])]] (fun (_ : Option Value) (_ : List va_W) => False) (fun (C_ : String) (cs_ : List va_W) => C_ = "java/lang/IllegalArgumentException" ∧ cs_ = [[(o, ob 0 [.ref n])]]) := by
  refine Mx.of (by decide) (Nat.le_of_ble_eq_true rfl) (fun X hX hR hT => ?_)
  refine g_lv1 (lv1 := [(0, .ref o), (1, .int c), (2, .int (nI kd)), (3, .int ky), (4, .int a), (5, .int b)]) rfl ?_
  refine g_iload_n hX (pc := 0) dX1_request_0 1 rfl ?_
  refine g_iconst hX (pc := 1) (v := 0) dX1_request_1 (by decide) ?_
  refine g_iconst hX (pc := 2) (v := 3) dX1_request_2 (by decide) ?_
  refine g_callS hX (pc := 3) kX1_mustBeIn (mt_mustBeIn E l c 0 3 (hc0) (hc1)) q1308 [] rfl rfl rfl (Nat.le_of_ble_eq_true rfl) (Nat.le_of_ble_eq_true rfl) (Nat.le_of_ble_eq_true rfl) (Nat.le_of_ble_eq_true rfl) (Nat.le_of_ble_eq_true rfl) dX1_request_3 (fun v w1 hp => ?_)
  obtain ⟨rfl, rfl⟩ := hp
  refine g_nrm (cs1 := [[(o, ob 0 [.ref n])]]) (st1 := []) rfl rfl ?_
  refine g_iload_n hX (pc := 6) dX1_request_6 2 rfl ?_
  refine g_iconst hX (pc := 7) (v := 0) dX1_request_7 (by decide) ?_
  refine g_callS hX (pc := 8) kX11_values (mt_Kind_values E l ) q1319 [] rfl rfl rfl (Nat.le_of_ble_eq_true rfl) (Nat.le_of_ble_eq_true rfl) (Nat.le_of_ble_eq_true rfl) (Nat.le_of_ble_eq_true rfl) (Nat.le_of_ble_eq_true rfl) dX1_request_8 (fun v w1 hp => ?_)
  obtain ⟨q1, rfl, rfl⟩ := hp
  refine g_nrm (cs1 := [[(q1, qA (aC E 6) 6 (fun i => some (aK E i)))], [(o, ob 0 [.ref n])]]) (st1 := [.ref q1, .int 0, .int (nI kd)]) rfl rfl ?_
  refine g_alen hX (pc := 11) (sp_mem (i := 0) rfl) 6 rfl (v := 6) rfl dX1_request_11 ?_
  refine g_iconst hX (pc := 12) (v := 1) dX1_request_12 (by decide) ?_
  refine g_isub hX (pc := 13) dX1_request_13 ?_
  refine g_eqi 5 (by decide) ?_
  refine g_callS hX (pc := 14) kX1_mustBeIn (mt_mustBeIn E l (nI kd) 0 5 (nI_pos (by omega)) (show ¬ nI 5 < nI kd from nI_nlt (by omega) (by omega))) q1308 [] rfl rfl rfl (Nat.le_of_ble_eq_true rfl) (Nat.le_of_ble_eq_true rfl) (Nat.le_of_ble_eq_true rfl) (Nat.le_of_ble_eq_true rfl) (Nat.le_of_ble_eq_true rfl) dX1_request_14 (fun v w1 hp => ?_)
  obtain ⟨rfl, rfl⟩ := hp
  refine g_nrm (cs1 := [[(q1, qA (aC E 6) 6 (fun i => some (aK E i)))], [(o, ob 0 [.ref n])]]) (st1 := []) rfl rfl ?_
  refine g_callS hX (pc := 17) kX11_values (mt_Kind_values E l ) q1319 [] rfl rfl rfl (Nat.le_of_ble_eq_true rfl) (Nat.le_of_ble_eq_true rfl) (Nat.le_of_ble_eq_true rfl) (Nat.le_of_ble_eq_true rfl) (Nat.le_of_ble_eq_true rfl) dX1_request_17 (fun v w1 hp => ?_)
  obtain ⟨q2, rfl, rfl⟩ := hp
  refine g_nrm (cs1 := [[(q2, qA (aC E 6) 6 (fun i => some (aK E i)))], [(q1, qA (aC E 6) 6 (fun i => some (aK E i)))], [(o, ob 0 [.ref n])]]) (st1 := [.ref q2]) rfl rfl ?_
  refine g_iload_n hX (pc := 20) dX1_request_20 2 rfl ?_
  refine g_aald hX (pc := 21) (t0 := 6) rfl (sp_mem (i := 0) rfl) (y := (aK E kd)) (vp_in_nI (by omega) (by omega)) (by rw [nI_clamp (by omega)]) dX1_request_21 ?_
  refine g_astore hX (pc := 22) (lv1 := [(6, .ref (aK E kd)), (0, .ref o), (1, .int c), (2, .int (nI kd)), (3, .int ky), (4, .int a), (5, .int b)]) dX1_request_22 (by decide) rfl ?_
  refine g_aload hX (pc := 24) dX1_request_24 0 rfl ?_
  refine g_iload_n hX (pc := 26) dX1_request_26 4 rfl ?_
  refine g_iload hX (pc := 27) dX1_request_27 5 rfl ?_
  refine g_iload hX (pc := 29) dX1_request_29 6 rfl ?_
  refine g_callS hX (pc := 31) kX1_canBe (mt_Q_canBe E l kd ky a b (hk)) q1330 [] rfl rfl rfl (Nat.le_of_ble_eq_true rfl) (Nat.le_of_ble_eq_true rfl) (Nat.le_of_ble_eq_true rfl) (Nat.le_of_ble_eq_true rfl) (Nat.le_of_ble_eq_true rfl) dX1_request_31 (fun v w1 hp => ?_)
  obtain ⟨rfl, rfl⟩ := hp
  refine g_nrm (cs1 := [[(q2, qA (aC E 6) 6 (fun i => some (aK E i)))], [(q1, qA (aC E 6) 6 (fun i => some (aK E i)))], [(o, ob 0 [.ref n])]]) (st1 := [.int (bI (canB kd ky a b))]) rfl rfl ?_
  refine g_drop (cs1 := [[(q1, qA (aC E 6) 6 (fun i => some (aK E i)))], [(o, ob 0 [.ref n])]]) [0] rfl ?_
  refine g_drop (cs1 := [[(o, ob 0 [.ref n])]]) [0] rfl ?_
  refine g_eqi 0 (by rw [hcan]; rfl) ?_
  refine gx_callS hX (pc := 34) kX1_must (mx_must E l hl0 ) q1311 [] rfl rfl rfl (Nat.le_of_ble_eq_true rfl) (Nat.le_of_ble_eq_true rfl) (Nat.le_of_ble_eq_true rfl) (Nat.le_of_ble_eq_true rfl) (Nat.le_of_ble_eq_true rfl) dX1_request_34 (fun C q w1 hp => ?_) (fun v w1 hp => hp.elim)
  obtain ⟨rfl, rfl⟩ := hp
  exact gx_out hX hR hT (Nat.le_of_ble_eq_true rfl) (Nat.le_of_ble_eq_true rfl) ⟨rfl, rfl⟩

set_option maxHeartbeats 4000000 in
theorem mx_Q_request_4 (E : EE) (l : Launch) (hl0 : l.stackTraces = false) (o : Nat) (n : Nat) (lm : Nat) (lb : Nat) (lr : Nat) (P : PN) (wm : va_W) (wM : va_W) (wr : va_W) (wq : va_W) (fz : va_W) (c : Int32) (kd : Nat) (ky : Int32) (a : Int32) (b : Int32) (hML : ML E fz lm (nM P) wm wM) (hRq : RL E lr (nR P) wr wq) (h5 : ((nM P).length ≤ 5)) (h40 : ((nR P).length ≤ 40)) (hc0 : (¬ c < 0)) (hc1 : (¬ 3 < c)) (hk : (kd < 6)) (hcan : (canB kd ky a b = true)) (hb0 : (¬ ((nR P).length < 40 ∧ 0 < (nM P).length))) : Mx E l yX1_request cX1_request 7 (some .int) 7 3 18 101 [.ref o, .int c, .int (nI kd), .int ky, .int a, .int b] [[(o, ob 0 [.ref n])], [(n, ob 1 [.ref lm, .ref lb, .ref lr, .int (nLo P), .int (nNow P)])], wm, wr] (fun (_ : Option Value) (_ : List va_W) => False) (fun (C_ : String) (cs_ : List va_W) => C_ = "java/lang/IllegalStateException" ∧ cs_ = [[(o, ob 0 [.ref n])], [(n, ob 1 [.ref lm, .ref lb, .ref lr, .int (nLo P), .int (nNow P)])], wm, wr]) := by
  obtain ⟨mas, hAm, hml⟩ := ML.al hML
  obtain ⟨ras, hAr, hrl⟩ := RL.al hRq
  refine Mx.of (by decide) (Nat.le_of_ble_eq_true rfl) (fun X hX hR hT => ?_)
  refine g_lv1 (lv1 := [(0, .ref o), (1, .int c), (2, .int (nI kd)), (3, .int ky), (4, .int a), (5, .int b)]) rfl ?_
  refine g_iload_n hX (pc := 0) dX1_request_0 1 rfl ?_
  refine g_iconst hX (pc := 1) (v := 0) dX1_request_1 (by decide) ?_
  refine g_iconst hX (pc := 2) (v := 3) dX1_request_2 (by decide) ?_
  refine g_callS hX (pc := 3) kX1_mustBeIn (mt_mustBeIn E l c 0 3 (hc0) (hc1)) q1308 [] rfl rfl rfl (Nat.le_of_ble_eq_true rfl) (Nat.le_of_ble_eq_true rfl) (Nat.le_of_ble_eq_true rfl) (Nat.le_of_ble_eq_true rfl) (Nat.le_of_ble_eq_true rfl) dX1_request_3 (fun v w1 hp => ?_)
  obtain ⟨rfl, rfl⟩ := hp
  refine g_nrm (cs1 := [[(o, ob 0 [.ref n])], [(n, ob 1 [.ref lm, .ref lb, .ref lr, .int (nLo P), .int (nNow P)])], wm, wr]) (st1 := []) rfl rfl ?_
  refine g_iload_n hX (pc := 6) dX1_request_6 2 rfl ?_
  refine g_iconst hX (pc := 7) (v := 0) dX1_request_7 (by decide) ?_
  refine g_callS hX (pc := 8) kX11_values (mt_Kind_values E l ) q1319 [] rfl rfl rfl (Nat.le_of_ble_eq_true rfl) (Nat.le_of_ble_eq_true rfl) (Nat.le_of_ble_eq_true rfl) (Nat.le_of_ble_eq_true rfl) (Nat.le_of_ble_eq_true rfl) dX1_request_8 (fun v w1 hp => ?_)
  obtain ⟨q1, rfl, rfl⟩ := hp
  refine g_nrm (cs1 := [[(q1, qA (aC E 6) 6 (fun i => some (aK E i)))], [(o, ob 0 [.ref n])], [(n, ob 1 [.ref lm, .ref lb, .ref lr, .int (nLo P), .int (nNow P)])], wm, wr]) (st1 := [.ref q1, .int 0, .int (nI kd)]) rfl rfl ?_
  refine g_alen hX (pc := 11) (sp_mem (i := 0) rfl) 6 rfl (v := 6) rfl dX1_request_11 ?_
  refine g_iconst hX (pc := 12) (v := 1) dX1_request_12 (by decide) ?_
  refine g_isub hX (pc := 13) dX1_request_13 ?_
  refine g_eqi 5 (by decide) ?_
  refine g_callS hX (pc := 14) kX1_mustBeIn (mt_mustBeIn E l (nI kd) 0 5 (nI_pos (by omega)) (show ¬ nI 5 < nI kd from nI_nlt (by omega) (by omega))) q1308 [] rfl rfl rfl (Nat.le_of_ble_eq_true rfl) (Nat.le_of_ble_eq_true rfl) (Nat.le_of_ble_eq_true rfl) (Nat.le_of_ble_eq_true rfl) (Nat.le_of_ble_eq_true rfl) dX1_request_14 (fun v w1 hp => ?_)
  obtain ⟨rfl, rfl⟩ := hp
  refine g_nrm (cs1 := [[(q1, qA (aC E 6) 6 (fun i => some (aK E i)))], [(o, ob 0 [.ref n])], [(n, ob 1 [.ref lm, .ref lb, .ref lr, .int (nLo P), .int (nNow P)])], wm, wr]) (st1 := []) rfl rfl ?_
  refine g_callS hX (pc := 17) kX11_values (mt_Kind_values E l ) q1319 [] rfl rfl rfl (Nat.le_of_ble_eq_true rfl) (Nat.le_of_ble_eq_true rfl) (Nat.le_of_ble_eq_true rfl) (Nat.le_of_ble_eq_true rfl) (Nat.le_of_ble_eq_true rfl) dX1_request_17 (fun v w1 hp => ?_)
  obtain ⟨q2, rfl, rfl⟩ := hp
  refine g_nrm (cs1 := [[(q2, qA (aC E 6) 6 (fun i => some (aK E i)))], [(q1, qA (aC E 6) 6 (fun i => some (aK E i)))], [(o, ob 0 [.ref n])], [(n, ob 1 [.ref lm, .ref lb, .ref lr, .int (nLo P), .int (nNow P)])], wm, wr]) (st1 := [.ref q2]) rfl rfl ?_
  refine g_iload_n hX (pc := 20) dX1_request_20 2 rfl ?_
  refine g_aald hX (pc := 21) (t0 := 6) rfl (sp_mem (i := 0) rfl) (y := (aK E kd)) (vp_in_nI (by omega) (by omega)) (by rw [nI_clamp (by omega)]) dX1_request_21 ?_
  refine g_astore hX (pc := 22) (lv1 := [(6, .ref (aK E kd)), (0, .ref o), (1, .int c), (2, .int (nI kd)), (3, .int ky), (4, .int a), (5, .int b)]) dX1_request_22 (by decide) rfl ?_
  refine g_aload hX (pc := 24) dX1_request_24 0 rfl ?_
  refine g_iload_n hX (pc := 26) dX1_request_26 4 rfl ?_
  refine g_iload hX (pc := 27) dX1_request_27 5 rfl ?_
  refine g_iload hX (pc := 29) dX1_request_29 6 rfl ?_
  refine g_callS hX (pc := 31) kX1_canBe (mt_Q_canBe E l kd ky a b (hk)) q1330 [] rfl rfl rfl (Nat.le_of_ble_eq_true rfl) (Nat.le_of_ble_eq_true rfl) (Nat.le_of_ble_eq_true rfl) (Nat.le_of_ble_eq_true rfl) (Nat.le_of_ble_eq_true rfl) dX1_request_31 (fun v w1 hp => ?_)
  obtain ⟨rfl, rfl⟩ := hp
  refine g_nrm (cs1 := [[(q2, qA (aC E 6) 6 (fun i => some (aK E i)))], [(q1, qA (aC E 6) 6 (fun i => some (aK E i)))], [(o, ob 0 [.ref n])], [(n, ob 1 [.ref lm, .ref lb, .ref lr, .int (nLo P), .int (nNow P)])], wm, wr]) (st1 := [.int (bI (canB kd ky a b))]) rfl rfl ?_
  refine g_eqi 1 (by rw [hcan]; rfl) ?_
  refine g_callS hX (pc := 34) kX1_must (mt_must E l ) q1311 [] rfl rfl rfl (Nat.le_of_ble_eq_true rfl) (Nat.le_of_ble_eq_true rfl) (Nat.le_of_ble_eq_true rfl) (Nat.le_of_ble_eq_true rfl) (Nat.le_of_ble_eq_true rfl) dX1_request_34 (fun v w1 hp => ?_)
  obtain ⟨rfl, rfl⟩ := hp
  refine g_nrm (cs1 := [[(q2, qA (aC E 6) 6 (fun i => some (aK E i)))], [(q1, qA (aC E 6) 6 (fun i => some (aK E i)))], [(o, ob 0 [.ref n])], [(n, ob 1 [.ref lm, .ref lb, .ref lr, .int (nLo P), .int (nNow P)])], wm, wr]) (st1 := []) rfl rfl ?_
  refine g_aload_n hX (pc := 37) dX1_request_37 1 rfl ?_
  refine g_get hX (pc := 38) fcX1 2 rfl 0 (by decide) q176 rfl (v := .ref n) rfl dX1_request_38 ?_
  refine g_getN hX (pc := 41) fcX2 3 rfl 2 (by decide) q160 rfl (v := .ref lr) rfl dX1_request_41 ?_
  obtain ⟨fs3, hm4⟩ := AL.head hAr
  refine g_callF hX (pc := 44) kfJ2_size (mt_AL_size E l lr ras wr hAr) q738 fcJ2 (sp_in 5 rfl hm4) [5] rfl rfl rfl (Nat.le_of_ble_eq_true rfl) (Nat.le_of_ble_eq_true rfl) (Nat.le_of_ble_eq_true rfl) (Nat.le_of_ble_eq_true rfl) (Nat.le_of_ble_eq_true rfl) dX1_request_44 (fun v w1 hp => ?_)
  obtain ⟨rfl, rfl⟩ := hp
  refine g_nrm (cs1 := [wr, [(q2, qA (aC E 6) 6 (fun i => some (aK E i)))], [(q1, qA (aC E 6) 6 (fun i => some (aK E i)))], [(o, ob 0 [.ref n])], [(n, ob 1 [.ref lm, .ref lb, .ref lr, .int (nLo P), .int (nNow P)])], wm]) (st1 := [.int (nI (List.length ras))]) rfl rfl ?_
  refine g_eqi (nI (List.length (nR P))) (by rw [hrl]) ?_
  refine g_bipush hX (pc := 49) (v := 40) dX1_request_49 (by decide) ?_
  refine g_icmp_ge hX (pc := 51) (tgt := 73) dX1_request_51 rfl (fun c5 => ?_) (fun c5 => ?_)
  · refine g_iconst hX (pc := 73) (v := 0) dX1_request_73 (by decide) ?_
    refine g_drop (cs1 := [wr, [(q1, qA (aC E 6) 6 (fun i => some (aK E i)))], [(o, ob 0 [.ref n])], [(n, ob 1 [.ref lm, .ref lb, .ref lr, .int (nLo P), .int (nNow P)])], wm]) [1] rfl ?_
    refine g_drop (cs1 := [wr, [(o, ob 0 [.ref n])], [(n, ob 1 [.ref lm, .ref lb, .ref lr, .int (nLo P), .int (nNow P)])], wm]) [1] rfl ?_
    refine gx_callS hX (pc := 74) kX1_checkState (mx_checkState E l hl0 ) q1268 [] rfl rfl rfl (Nat.le_of_ble_eq_true rfl) (Nat.le_of_ble_eq_true rfl) (Nat.le_of_ble_eq_true rfl) (Nat.le_of_ble_eq_true rfl) (Nat.le_of_ble_eq_true rfl) dX1_request_74 (fun C q w1 hp => ?_) (fun v w1 hp => hp.elim)
    obtain ⟨rfl, rfl⟩ := hp
    refine gx_pk [1, 1, 1, 0] rfl ?_
    exact gx_out hX hR hT (Nat.le_of_ble_eq_true rfl) (Nat.le_of_ble_eq_true rfl) ⟨rfl, rfl⟩
  · have d1 : (nR P).length < 40 := by
      have h1 := c5
      rw [show (40 : Int32) = nI 40 from rfl] at h1
      have := mt (nI_leI (by omega) (by omega)).mpr h1
      omega
    refine g_aload_n hX (pc := 54) dX1_request_54 1 rfl ?_
    refine g_get hX (pc := 55) fcX1 3 rfl 0 (by decide) q176 rfl (v := .ref n) rfl dX1_request_55 ?_
    refine g_getN hX (pc := 58) fcX2 4 rfl 0 (by decide) q156 rfl (v := .ref lm) rfl dX1_request_58 ?_
    obtain ⟨fs6, hm7⟩ := AL.head hAm
    refine g_callF hX (pc := 61) kfJ2_isEmpty (mt_AL_isEmpty E l lm mas wm hAm (by omega)) q1255 fcJ2 (sp_in 5 rfl hm7) [5] rfl rfl rfl (Nat.le_of_ble_eq_true rfl) (Nat.le_of_ble_eq_true rfl) (Nat.le_of_ble_eq_true rfl) (Nat.le_of_ble_eq_true rfl) (Nat.le_of_ble_eq_true rfl) dX1_request_61 (fun v w1 hp => ?_)
    obtain ⟨rfl, rfl⟩ := hp
    refine g_nrm (cs1 := [wm, wr, [(q2, qA (aC E 6) 6 (fun i => some (aK E i)))], [(q1, qA (aC E 6) 6 (fun i => some (aK E i)))], [(o, ob 0 [.ref n])], [(n, ob 1 [.ref lm, .ref lb, .ref lr, .int (nLo P), .int (nNow P)])]]) (st1 := [.int (if List.length mas = 0 then 1 else 0)]) rfl rfl ?_
    refine g_val (v := if List.length mas = 0 then 0 else 1) (pcJ := 74) (st1 := []) (fun hj8 => ?_) ?_
    · refine g_if_ne hX (pc := 66) (tgt := 73) dX1_request_66 rfl (fun c9_ => ?_) (fun c9_ => ?_)
      · have c9 := z10n.mp c9_
        refine g_iconst hX (pc := 73) (v := 0) dX1_request_73 (by decide) ?_
        exact hj8 _ (by rw [if_pos c9])
      · have c9 := z10.mp c9_
        refine g_iconst hX (pc := 69) (v := 1) dX1_request_69 (by decide) ?_
        refine g_goto hX (pc := 70) (tgt := 74) dX1_request_70 rfl ?_
        exact hj8 _ (by rw [if_neg c9])
    refine g_drop (cs1 := [wm, wr, [(q1, qA (aC E 6) 6 (fun i => some (aK E i)))], [(o, ob 0 [.ref n])], [(n, ob 1 [.ref lm, .ref lb, .ref lr, .int (nLo P), .int (nNow P)])]]) [2] rfl ?_
    refine g_drop (cs1 := [wm, wr, [(o, ob 0 [.ref n])], [(n, ob 1 [.ref lm, .ref lb, .ref lr, .int (nLo P), .int (nNow P)])]]) [2] rfl ?_
    refine g_eqi 0 (if_pos (by omega)) ?_
    refine gx_callS hX (pc := 74) kX1_checkState (mx_checkState E l hl0 ) q1268 [] rfl rfl rfl (Nat.le_of_ble_eq_true rfl) (Nat.le_of_ble_eq_true rfl) (Nat.le_of_ble_eq_true rfl) (Nat.le_of_ble_eq_true rfl) (Nat.le_of_ble_eq_true rfl) dX1_request_74 (fun C q w1 hp => ?_) (fun v w1 hp => hp.elim)
    obtain ⟨rfl, rfl⟩ := hp
    refine gx_pk [2, 2, 0, 0] rfl ?_
    exact gx_out hX hR hT (Nat.le_of_ble_eq_true rfl) (Nat.le_of_ble_eq_true rfl) ⟨rfl, rfl⟩
