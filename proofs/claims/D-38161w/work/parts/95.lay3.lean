/-! rows of the layer that the model wants: arrays of arrays of ints, small Integers, getClass() through Collection -/
section LAY5
variable {E : EE} {l : Launch} {X : Fx} {cc : ByteArray} {own : String} {nL fr mc ms rl : Nat} {cs : List va_W} {kc ks pc : Nat} {lv : List (Nat × Value)} {rest st : List Value} {a : Nat}
theorem nm_AI : "[" ++ (FieldType.array .int).toString = "[[I" := by decide +kernel
theorem nm_I : (FieldType.array .int).toString = "[I" := by decide +kernel
theorem cx_AI {E : EE} {X : Fx} {cc : ByteArray} {own : String} {nL fr mc ms rl : Nat} (hX : Cx E X cc own nL fr mc ms rl) : xw_AI (xs X) := hX.2.2.2.2.2.2.2.2.2.1.1.2.2.2.2.2.1
theorem cx_K5 {E : EE} {X : Fx} {cc : ByteArray} {own : String} {nL fr mc ms rl : Nat} (hX : Cx E X cc own nL fr mc ms rl) : ArrOfT (xs X) (aC E 5) (.array .int) ∧ ∃ (kA : Class) (comp : ClassId), (xs X).vm.classes[aC E 5]? = some kA ∧ kA.kind = .array comp (.array .int) ∧ (xs X).vm.findClass "[I" = some comp ∧ (xs X).vm.findClass ("[" ++ (FieldType.array .int).toString) = some (aC E 5) := by
  have hK := hX.2.2.2.2.2.2.2.2.1.2 5 (aC E 5, .array .int) rfl
  obtain ⟨comp, c, k, h1, h2, h3, h4, h5⟩ := arrayOverA_spec (cx_AI hX).1
  have e : (xs X).vm.findClass ("[" ++ (FieldType.array .int).toString) = some (aC E 5) := hK.2
  have ec : c = aC E 5 := Option.some.inj (h5.symm.trans e)
  subst ec
  exact ⟨hK.1, k, comp, h3, h4, by rw [← nm_I]; exact h1, e⟩
theorem cx_I {E : EE} {X : Fx} {cc : ByteArray} {own : String} {nL fr mc ms rl : Nat} (hX : Cx E X cc own nL fr mc ms rl) : (xs X).vm.findClass "[I" = some (aC E 0) := va_nm_int (hX.2.2.2.2.2.2.2.2.1.2 0 (aC E 0, .int) rfl).2
theorem g_newqA (hX : Cx E X cc own nL fr mc ms rl) {index : Nat} (hw : Cond.classLink own index "[I" ∈ lw_all) {n : Int32} (N : Nat) (hn : ¬ n < 0) (hN : n.toNatClampNeg = N) (hb : N * 4 ≤ 536870912) (h1 : kc + 1 ≤ mc) (h2 : ks + N ≤ ms) (hdg : decode cc pc = .ok (.anewarray index, 3))
    (kk : ∀ q : Nat, G E l X ([(q, qA (aC E 5) N (fun _ => none))] :: cs) (kc + 1) (ks + N) (pc + 3) lv (.ref q :: rest)) : G E l X cs kc ks pc lv (.int n :: rest) := fun H locs ls hP hD hS hl => by
  have hR := hX.2.2.2.2.2.2.2.1
  subst hN
  have hw2 : (Cond.classLink own index (FieldType.array .int).toString).before (xa X) (xs X) = true := by rw [nm_I]; exact hX.2.2.2.2.2.1 _ hw
  refine W.anewA (t := .int) hX.1 hX.2.1 hX.2.2.2.2.1 hw2 (cx_AI hX).1 rfl hdg rfl hn hb (by rw [hR]; exact h1) (by rw [hR]; exact h2) fun cA kA comp f1 f2 f3 f4 => ?_
  obtain ⟨-, -, -, -, -, -, e5⟩ := cx_K5 hX
  obtain rfl : cA = aC E 5 := Option.some.inj (f1.symm.trans e5)
  generalize hH1 : H.push ({ cls := aC E 5, slots := Array.replicate n.toNatClampNeg .null, vm := .none } : Cell) = H1
  have e1 : H1[H.size]? = some (arrV (aC E 5) n.toNatClampNeg (fun _ => .null)) := by rw [← hH1, Array.getElem?_push_size, ← arrV_new]
  have o1 : ∀ q : Nat, q < H.size → H1[q]? = H[q]? := fun q hq => by rw [← hH1, Array.getElem?_push, if_neg (Nat.ne_of_lt hq)]
  have z1 : H1.size = H.size + 1 := by rw [← hH1, Array.size_push]
  refine kk H.size H1 locs ls (sp_P.mpr fun q hq => ?_) ?_ ⟨Nat.le_trans hS.1 (by omega), fun x h1 h2 => (o1 x (Nat.lt_of_lt_of_le h1 hS.1)).trans (hS.2.1 x h1 h2), hS.2.2⟩ hl
  · rw [List.flatten_cons] at hq
    rcases List.mem_append.mp hq with h | h
    · rw [List.mem_singleton.mp h]
      show H1[H.size]? = some (vp_cell _ _)
      rw [vp_cell_q]
      exact e1
    · exact (sp_P.mp hP q h).kept (o1 _ (sp_P.mp hP q h).lt)
  · exact sp_Dp sp_front (hD.push hP rfl (hX.2.2.2.2.2.2.2.2.2.2 _ hS.1))
theorem g_aaldA (hX : Cx E X cc own nL fr mc ms rl) {n : Nat} {f : Nat → Option Nat} (hm : (a, qA (aC E 5) n f) ∈ cs.flatten) {i : Int32} {y : Nat} (hin : vp_in i n) (hv : f i.toNatClampNeg = some y) (hdg : decode cc pc = .ok (.aaload, 1))
    (kk : G E l X cs kc ks (pc + 1) lv (.ref y :: rest)) : G E l X cs kc ks pc lv (.int i :: .ref a :: rest) := fun H locs ls hP hD hS hl => by
  obtain ⟨q0, h0⟩ := List.mem_iff_getElem?.mp hm
  have hlt : i.toNatClampNeg < n := Nat.not_le.mp fun q => hin (Or.inr q)
  refine W.aald (v := va_rf (f i.toNatClampNeg)) (ty := .array .int) hX.1 hX.2.1 (hP q0 _ h0) ((cx_K5 hX).1 n (fun j => va_rf (f j))) rfl (fun q => by cases q) (by show ¬ (i < 0 ∨ (arrV _ _ _).slots.size ≤ _); rw [arrV_size]; exact hin) (by show (arrV _ _ _).slots[_]? = _; rw [arrV_read _ _ hlt]) rfl rfl hdg ?_
  rw [hv]
  exact kk H locs ls hP hD hS hl
theorem g_aastA (hX : Cx E X cc own nL fr mc ms rl) {n N : Nat} {f f1 : Nat → Option Nat} {g : Nat → Int32} {cs1 : List va_W} {v : Nat} (i : Nat) (hm : cs[i]? = some [(a, qA (aC E 5) n f)]) (hv : (v, iA (aC E 0) N g) ∈ cs.flatten) {j : Int32} (hin : vp_in j n) (hf : va_up f j.toNatClampNeg (some v) = f1) (hcs : cs.set i [(a, qA (aC E 5) n f1)] = cs1) (hdg : decode cc pc = .ok (.aastore, 1))
    (kk : G E l X cs1 kc ks (pc + 1) lv rest) : G E l X cs kc ks pc lv (.ref v :: .int j :: .ref a :: rest) := fun H locs ls hP hD hS hl => by
  obtain ⟨q0, h0, h1⟩ := sp_set cs i _ hm
  subst hcs; subst hf
  have hlt : j.toNatClampNeg < n := Nat.not_le.mp fun q => hin (Or.inr q)
  have hj0 : ¬ j < 0 := fun q => hin (Or.inl q)
  obtain ⟨-, kA, comp, k1, k2, k3, -⟩ := cx_K5 hX
  have hcomp : comp = aC E 0 := Option.some.inj (k3.symm.trans (cx_I hX))
  subst hcomp
  obtain ⟨kE, hkE, -⟩ := Vm.findClass_spec k3
  have hcv : H[v]? = some (vp_cell (aC E 0) (N, .inl g)) := sp_P.mp hP _ hv
  refine W.aast hX.1 hX.2.1 (hP q0 _ h0) (fun q h => by cases h) (fun h => by cases h) k1 k2 rfl hkE ⟨hj0, by show _ < (arrV _ _ _).slots.size; rw [arrV_size]; exact hlt⟩ hcv (fun q h => by cases h) hkE (va_asg _ _) rfl rfl hdg fun H1 e z oq => ?_
  have hx : H1[a]? = some (vp_cell (aC E 5) (n, .inr (.inr (.inr (.inr (va_up f j.toNatClampNeg (some v))))))) := by
    rw [e]
    rw [vp_cell_q, vp_cell_q, arrV_store]
    congr 2
    funext q
    by_cases hq : q = j.toNatClampNeg
    · subst hq
      simp [updV, va_up, va_rf]
    · simp [updV, va_up, hq]
  have hP1 := hP.set (e := qA (aC E 5) n (va_up f j.toNatClampNeg (some v))) hD h0 hx oq
  have hD1 := hD.set (e := qA (aC E 5) n (va_up f j.toNatClampNeg (some v))) h0
  rw [h1] at hP1 hD1
  exact kk H1 _ ls hP1 hD1 (hS.put z oq (hD.2 q0 _ h0)) hl
theorem g_castA (hX : Cx E X cc own nL fr mc ms rl) {n : Nat} {f : Nat → Int32} (hm : (a, iA (aC E 0) n f) ∈ cs.flatten) {index : Nat} (hw : Cond.classLink own index "[I" ∈ lw_all) (hdg : decode cc pc = .ok (.checkcast index, 3))
    (kk : G E l X cs kc ks (pc + 3) lv (.ref a :: rest)) : G E l X cs kc ks pc lv (.ref a :: rest) := fun H locs ls hP hD hS hl => by
  obtain ⟨q0, h0⟩ := List.mem_iff_getElem?.mp hm
  exact va_castA hX.1 hX.2.1 hX.2.2.2.2.1 (hX.2.2.2.2.2.1 _ hw) hP q0 h0 (cx_I hX) hdg (kk H locs ls hP hD hS hl)
theorem cx_Int {E : EE} {X : Fx} {cc : ByteArray} {own : String} {nL fr mc ms rl : Nat} (hX : Cx E X cc own nL fr mc ms rl) {k : Nat} (hk : k < 256) {H : Heap} {locs : List Loc} (hS : va_S (xA X) (xs X).heap H locs) : ∃ cell : Cell, H[aI E k]? = some cell ∧ cell.vm.isStatics = false ∧ (xs X).vm.findClass "java/lang/Integer" = some cell.cls :=
  cx_O ((cx_gs hX).2.2.2.2.2.2.2.2.2.2.1.1 k hk) hS
theorem g_getI (hX : Cx E X cc own nL fr mc ms rl) {k : Nat} (hk : k < 256) {v : Int32} (hv : vb_c k = v) {index : Nat} (hw : Cond.fieldLink own index "java/lang/Integer" "value" "I" ∈ lw_all) (hdg : decode cc pc = .ok (.getfield index, 3))
    (kk : G E l X cs kc ks (pc + 3) lv (.int v :: rest)) : G E l X cs kc ks pc lv (.ref (aI E k) :: rest) := fun H locs ls hP hD hS hl => by
  subst hv
  exact va_getX (i := k) (v := fun k => .int (vb_c k)) hX.1 hX.2.1 (cx_gs hX).2.2.2.2.2.2.2.2.2.2.1.2 hk hS hX.2.2.2.2.1 (hX.2.2.2.2.2.1 _ hw) (fun x h => h) hdg (kk H locs ls hP hD hS hl)
theorem g_instI (hX : Cx E X cc own nL fr mc ms rl) {k : Nat} (hk : k < 256) {index : Nat} (hw : Cond.classLink own index "java/lang/Integer" ∈ lw_all) (hdg : decode cc pc = .ok (.instanceof index, 3))
    (kk : G E l X cs kc ks (pc + 3) lv (.int 1 :: rest)) : G E l X cs kc ks pc lv (.ref (aI E k) :: rest) := fun H locs ls hP hD hS hl => by
  obtain ⟨cell, h1, h2, h3⟩ := cx_Int hX hk hS
  obtain ⟨kC, hkC, -⟩ := Vm.findClass_spec h3
  intro T hT Xs
  obtain ⟨vm', X', st⟩ := Xs.instanceofYes hX.1 hX.2.2.2.2.1 (hX.2.2.2.2.2.1 _ hw) (by rw [hT]; exact h1) h2 h3 (va_asg _ _) (g := F0 (xm X) pc ls (.ref (aI E k) :: rest)) rfl rfl (by rw [hX.2.1]; exact hdg)
  obtain ⟨t, a1, b1⟩ := kk H locs ls hP hD hS hl (T.setVm vm') hT X'
  exact ⟨t, st t a1, b1⟩
theorem g_castI (hX : Cx E X cc own nL fr mc ms rl) {k : Nat} (hk : k < 256) {index : Nat} (hw : Cond.classLink own index "java/lang/Integer" ∈ lw_all) (hdg : decode cc pc = .ok (.checkcast index, 3))
    (kk : G E l X cs kc ks (pc + 3) lv (.ref (aI E k) :: rest)) : G E l X cs kc ks pc lv (.ref (aI E k) :: rest) := fun H locs ls hP hD hS hl => by
  obtain ⟨cell, h1, h2, h3⟩ := cx_Int hX hk hS
  intro T hT Xs
  obtain ⟨vm', X', st⟩ := Xs.checkcastYes hX.1 hX.2.2.2.2.1 (hX.2.2.2.2.2.1 _ hw) (by rw [hT]; exact h1) h2 h3 (va_asg _ _) (g := F0 (xm X) pc ls (.ref (aI E k) :: rest)) rfl rfl (by rw [hX.2.1]; exact hdg)
  obtain ⟨t, a1, b1⟩ := kk H locs ls hP hD hS hl (T.setVm vm') hT X'
  exact ⟨t, st t a1, b1⟩
theorem g_ldcw (hX : Cx E X cc own nL fr mc ms rl) {index : Nat} {v : Int32} (hw : Cond.constant own index v ∈ lw_all) (hdg : decode cc pc = .ok (.ldc_w index, 3)) (kk : G E l X cs kc ks (pc + 3) lv (.int v :: rest)) : G E l X cs kc ks pc lv rest := fun H locs ls hP hD hS hl =>
  lv_ldcw hX.1 hX.2.1 hX.2.2.2.2.1 (hX.2.2.2.2.2.1 _ hw) hdg (kk H locs ls hP hD hS hl)
theorem sel_face {A : Array Value} {U : State} {C : String} (h : (Cond.selects C ⟨"java/lang/Object", "getClass", "()Ljava/lang/Class;"⟩ ⟨"java/lang/Object", "getClass", "()Ljava/lang/Class;"⟩).before A U = true) (hf : (Cond.interfaceMethod "java/util/Collection" "java/lang/Object" "getClass" "()Ljava/lang/Class;").before A U = true) :
    (Cond.selects C ⟨"java/util/Collection", "getClass", "()Ljava/lang/Class;"⟩ ⟨"java/lang/Object", "getClass", "()Ljava/lang/Class;"⟩).before A U = true := by
  obtain ⟨c, k, m, -, -, -, f1, f2⟩ := Cond.interfaceMethod_spec hf
  have e : U.methodFound? "java/util/Collection" "getClass" "()Ljava/lang/Class;" = U.methodFound? "java/lang/Object" "getClass" "()Ljava/lang/Class;" := f1.trans (State.methodFound?_of_named f2 ⟨by decide, by decide⟩).symm
  simp only [Cond.before, Cond.holds, Cond.value] at h ⊢
  rw [e]
  exact h
/-- getClass() of a list, through Collection -/
theorem g_getCF (hX : Cx E X cc own nL fr mc ms rl) {index : Nat} (hw : Cond.methodLink own index ⟨"java/util/Collection", "getClass", "()Ljava/lang/Class;"⟩ ∈ lw_all) (hsel : Cond.selects "java/util/ArrayList" ⟨"java/lang/Object", "getClass", "()Ljava/lang/Class;"⟩ ⟨"java/lang/Object", "getClass", "()Ljava/lang/Class;"⟩ ∈ lw_all)
    (hin : Cond.instanceMethod ⟨"java/lang/Object", "getClass", "()Ljava/lang/Class;"⟩ ∈ lw_all) (hna : Cond.native ⟨"java/lang/Object", "getClass", "()Ljava/lang/Class;"⟩ ∈ lw_all) {fs : List Value} (hm : (a, ob 15 fs) ∈ cs.flatten)
    (h1 : 1 ≤ fr) (h2 : (rest.map fun v => v.category).sum + 14 ≤ rl) (hdg : decode cc pc = .ok (.invokeinterface index 1, 5))
    (kk : G E l X cs kc ks (pc + 5) lv (.ref (aX E 5) :: rest)) : G E l X cs kc ks pc lv (.ref a :: rest) := fun H locs ls hP hD hS hl => by
  have hR := hX.2.2.2.2.2.2.2.1
  obtain ⟨c0, k0, m1, m2, m3⟩ := cx_M5 hX
  obtain ⟨q0, h0⟩ := List.mem_iff_getElem?.mp hm
  obtain ⟨cell, g1, g2, g3⟩ := va_recv hX.2.2.2.2.2.2.2.2.1 hP fcJ2.1 h0
  cases m1.symm.trans g3
  have hall := hX.2.2.2.2.2.1
  have hq : va_Nw (.castable "java/util/ArrayList" "java/util/Collection") (xs X) := cx_nst hX q1843 rfl
  intro T hT Xs
  obtain ⟨vm', X', st⟩ := Xs.getClassOfI hX.1 (own := own) (C := "java/util/ArrayList") (index := index) (count := 1) (xi := ⟨"java/util/Collection", "getClass", "()Ljava/lang/Class;"⟩) hX.2.2.2.2.1 (hall _ hw) (va_Dc.use hX.2.2.2.2.2.2.2.2.2.1.1.2.2.2.2.2.2.1) (va_any rfl (cx_AI hX).2.1) (sel_face (hall _ hsel) (va_any rfl (cx_AI hX).2.1)) (hall _ hin)
    (va_any rfl (cx_AI hX).2.2.1) (va_any rfl (cx_AI hX).2.2.2) (va_Nw.use rfl hq) (hall _ hna) ⟨by decide, by decide⟩ (by decide) rfl rfl (b := a) (cB := cell.cls) (kB := k0) g3 m2 ⟨cell, by rw [hT]; exact g1, rfl, g2⟩ (mir := aX E 5) m3
    (g := F0 (xm X) pc ls (.ref a :: rest)) rfl (hl.1.trans (hX.2.2.2.1.trans hX.2.2.1.symm)) rfl (by rw [hX.2.1]; exact hdg) (by rw [hR]; exact h1) (by rw [hR]; show 2 * 0 + _ + _ ≤ rl; have hw : nativeFrameWords "java/lang/Object" "getClass" 1 = 3 := (by decide); omega)
  obtain ⟨t, a1, b1⟩ := kk H locs ls hP hD hS hl (T.setVm vm') hT X'
  exact ⟨t, st t a1, b1⟩
/-- an overriding method of a small Integer: equals -/
theorem g_callO (hX : Cx E X cc own nL fr mc ms rl) {x y : MethodName} {code : ByteArray} {nL1 n fr1 mc1 ms1 rl1 b index : Nat} {C : String} {ret : Option FieldType} {As : List Value} {wc wr : List va_W} {post : Option Value → List va_W → Prop}
    (hk1 : Cond.code y code nL1 ret ∈ lw_all) (hk2 : Cond.instanceMethod y ∈ lw_all) (hk3 : Cond.selects C x y ∈ lw_all) (hk4 : Cond.initialized y.cls ∈ lw_all) (hk5 : Cond.sameMethod x.cls x.cls x.name x.desc ∈ lw_all) (hk6 : Cond.declares x ∈ lw_tbl) (hd : x.cls ≠ "java/lang/invoke/MethodHandle" ∧ x.cls ≠ "java/lang/invoke/VarHandle" ∧ (parseMethodDescriptor x.desc).map (fun d => d.parameters.length) = some n)
    (hM : Mt E l y code nL1 ret fr1 mc1 ms1 rl1 (.ref b :: As) wc post) (hw : Cond.methodLink own index x ∈ lw_all) (hm : ∀ (H : Heap) (locs : List Loc), va_P E.1 Cl cs.flatten H → va_S (xA X) (xs X).heap H locs → ∃ cell : Cell, H[b]? = some cell ∧ cell.vm.isStatics = false ∧ (xs X).vm.findClass C = some cell.cls) (is : List Nat) (hp : pk is cs = some (wc, wr)) (hn : As.length = n) (hst : st = As.reverse ++ .ref b :: rest) (hc : (rest.map fun v => v.category).sum ≤ 8)
    (h1 : fr1 + 1 ≤ fr) (h2 : 8 + (nL1 + 11) + rl1 ≤ rl) (h3 : kc + mc1 ≤ mc) (h4 : ks + ms1 ≤ ms) (hdg : decode cc pc = .ok (.invokevirtual index, 3))
    (kk : ∀ (v : Option Value) (w1 : List va_W), post v w1 → G E l X (w1 ++ wr) (kc + mc1) (ks + ms1) (pc + 3) lv (v.toList ++ rest)) : G E l X cs kc ks pc lv st := fun H locs ls hP hD hS hl => by
  have hR := hX.2.2.2.2.2.2.2.1
  obtain ⟨-, hpre⟩ := sp_sub hX (pk_flat hp) hP hD hS
  have hall := hX.2.2.2.2.2.1
  have hG : GoodIn lw_all (ws_ y code nL1 ret) := lw_meth hk1
  have hcm : Cond.code y code nL1 ret ∈ ws_ y code nL1 ret := List.mem_cons_self
  obtain ⟨r0, r, d1, d2, d3, d4⟩ := Cond.declares_spec (va_Nw.use (A := xa X) rfl (cx_nst hX hk6 rfl))
  have hcu : va_CU (xR X) (xs X) (xa X) own C x.cls index x y code nL1 ret (ws_ y code nL1 ret) ({ frames := fr1, cells := mc1, slots := ms1, locals := rl1 } : Room) mc1 ms1 n :=
    ⟨⟨rfl, rfl, by rw [hR]; exact h1, by rw [hR]; exact h2, pay_in hall hG, hcm⟩, hall _ hk1, hall _ hk4, ⟨hd.1, hd.2.1⟩, fun sig h => by
      have h2 := hd.2.2
      rw [h] at h2
      exact (Option.some.inj h2).symm, hall _ hw, hall _ hk5, ⟨r0, r, d1, d2, d3, d4⟩, hall _ hk3, hall _ hk2⟩
  exact g_run hX (pk_flat hp) hP hD hS hl (va_runU (As := As) (rest := rest) (cx_fix hX) (hM H.size) hcu
    ⟨Wd.blind, hm H locs hP hS, fun U hU hW => ⟨rfl, by rw [hU], hpre U hU hW⟩⟩ rfl hn (hl.1.trans hX.2.2.2.1) hst (cx_st hc) hdg (by rw [hR]; exact ⟨h3, h4⟩)) kk
/-- a call on a receiver whose cell is known otherwise -/
theorem g_callK (hX : Cx E X cc own nL fr mc ms rl) {y : MethodName} {code : ByteArray} {nL1 n fr1 mc1 ms1 rl1 b index : Nat} {ret : Option FieldType} {As : List Value} {wc wr : List va_W} {post : Option Value → List va_W → Prop}
    (hk : KI y code nL1 ret n) (hM : Mt E l y code nL1 ret fr1 mc1 ms1 rl1 (.ref b :: As) wc post) (hw : Cond.methodLink own index y ∈ lw_all) (hm : ∀ (H : Heap) (locs : List Loc), va_P E.1 Cl cs.flatten H → va_S (xA X) (xs X).heap H locs → ∃ cell : Cell, H[b]? = some cell ∧ cell.vm.isStatics = false ∧ (xs X).vm.findClass y.cls = some cell.cls) (is : List Nat) (hp : pk is cs = some (wc, wr)) (hn : As.length = n) (hst : st = As.reverse ++ .ref b :: rest) (hc : (rest.map fun v => v.category).sum ≤ 8)
    (h1 : fr1 + 1 ≤ fr) (h2 : 8 + (nL1 + 11) + rl1 ≤ rl) (h3 : kc + mc1 ≤ mc) (h4 : ks + ms1 ≤ ms) (hdg : decode cc pc = .ok (.invokevirtual index, 3))
    (kk : ∀ (v : Option Value) (w1 : List va_W), post v w1 → G E l X (w1 ++ wr) (kc + mc1) (ks + ms1) (pc + 3) lv (v.toList ++ rest)) : G E l X cs kc ks pc lv st := fun H locs ls hP hD hS hl => by
  have hR := hX.2.2.2.2.2.2.2.1
  obtain ⟨-, hpre⟩ := sp_sub hX (pk_flat hp) hP hD hS
  exact g_run hX (pk_flat hp) hP hD hS hl (va_runV (As := As) (rest := rest) (cx_fix hX) (hM H.size) (cwV n hX.2.2.2.2.2.1 (lw_V hw hk.2.1 hk.2.2.1 hk.2.2.2.1 hk.1) rfl rfl rfl ⟨rfl, hk.2.2.2.2⟩ (by rw [hR]; exact ⟨h1, h2⟩))
    ⟨Wd.blind, hm H locs hP hS, fun U hU hW => ⟨rfl, by rw [hU], hpre U hU hW⟩⟩ rfl hn (hl.1.trans hX.2.2.2.1) hst (cx_st hc) hdg (by rw [hR]; exact ⟨h3, h4⟩)) kk
end LAY5
