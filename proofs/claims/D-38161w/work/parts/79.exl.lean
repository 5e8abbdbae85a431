/-! contracts of methods that may throw -/
def XC0 (E : EE) (postX : String → List va_W → Prop) (A : Nat → Prop) : String → State → State → Prop := fun C st t =>
  (∃ cs : List va_W, postX C cs ∧ va_P E.1 Cl cs.flatten t.heap ∧ va_D A cs.flatten) ∧ va_F A st t
/-- it returns, with 'post answer cells', or throws, with 'postX class cells' -/
def Mx (E : EE) (l : Launch) (y : MethodName) (code : ByteArray) (nL : Nat) (ret : Option FieldType) (fr mc ms rl : Nat) (av : List Value) (cs : List va_W) (post : Option Value → List va_W → Prop) (postX : String → List va_W → Prop) : Prop :=
  ∀ sz : Nat, vx_Met l y (ws_ y code nL ret) ({ frames := fr, cells := mc, slots := ms, locals := rl } : Room) (va_Pc av (fun U => U.heap.size = sz ∧ Wd E (va_A cs.flatten sz) cs U)) (Qx E post (va_A cs.flatten sz)) (XC0 E postX (va_A cs.flatten sz)) mc ms (va_A cs.flatten sz)
/-- the same of a method with a table of handlers -/
abbrev wsH (y : MethodName) (b : ByteArray) (L : Nat) (r : Option FieldType) (hh : List (Nat × Nat × Nat × Nat)) : List Cond := Cond.codeWith y b L r hh :: lw_all
def Mh (E : EE) (l : Launch) (y : MethodName) (code : ByteArray) (nL : Nat) (ret : Option FieldType) (hh : List (Nat × Nat × Nat × Nat)) (fr mc ms rl : Nat) (av : List Value) (cs : List va_W) (post : Option Value → List va_W → Prop) (postX : String → List va_W → Prop) : Prop :=
  ∀ sz : Nat, vx_Met l y (wsH y code nL ret hh) ({ frames := fr, cells := mc, slots := ms, locals := rl } : Room) (va_Pc av (fun U => U.heap.size = sz ∧ Wd E (va_A cs.flatten sz) cs U)) (Qx E post (va_A cs.flatten sz)) (XC0 E postX (va_A cs.flatten sz)) mc ms (va_A cs.flatten sz)
def RtX (E : EE) (X : Fx) (ret : Option FieldType) (post : Option Value → List va_W → Prop) (postX : String → List va_W → Prop) (mc ms : Nat) : Prop :=
  xQ X = vx_MQ (xb X) (Qx E post (xA X)) (XC0 E postX (xA X)) (xa X) (xs X) mc ms (xA X) ∧ (xM X).sig.returnType = ret
theorem Mx.of {E : EE} {l : Launch} {y : MethodName} {code : ByteArray} {nL : Nat} {ret : Option FieldType} {fr mc ms rl : Nat} {av : List Value} {cs : List va_W} {post : Option Value → List va_W → Prop} {postX : String → List va_W → Prop}
    (hy : plainName y.cls = true) (hargs : (lg_sl av).length ≤ nL) (body : ∀ X : Fx, Cx E X code y.cls nL fr mc ms rl → RtX E X ret post postX mc ms → (∀ x ∈ (xc X).exceptionTable.toList, False) → G E l X cs 0 0 0 (lv_args 0 av) []) :
    Mx E l y code nL ret fr mc ms rl av cs post postX := by
  intro sz
  refine vx_ofW (cc := code) (maxL := nL) (ret := ret) hy rfl ?_
  intro p e s m args below meth c s₁ B hml ht hv
  obtain ⟨rfl, hsz, hP, hK, hD, hG⟩ := hv
  subst hsz
  have hts := atoms_spec (ws := ws_ y code nL ret) B.pre
  have hl := lv_entry av (n := nL) hargs
  rw [lg_entry_eq]
  exact body (p, e, ({ frames := fr, cells := mc, slots := ms, locals := rl } : Room), s, m, av.toArray, below, meth, c, va_A cs.flatten s.heap.size, nL, vx_MQ below (Qx E post (va_A cs.flatten s.heap.size)) (XC0 E postX (va_A cs.flatten s.heap.size)) av.toArray s mc ms (va_A cs.flatten s.heap.size))
    ⟨B.exec, B.bytes, hml, rfl, findClass_of_methodNamed B.named, fun w h => hts w (List.mem_cons_of_mem _ h), B.notSynchronized, rfl, hK, hG, fun q h => Or.inr h⟩ ⟨rfl, B.returns⟩ ht s.heap [] _ hP hD va_S.rf hl
theorem Mh.of {E : EE} {l : Launch} {y : MethodName} {code : ByteArray} {nL : Nat} {ret : Option FieldType} {hh : List (Nat × Nat × Nat × Nat)} {fr mc ms rl : Nat} {av : List Value} {cs : List va_W} {post : Option Value → List va_W → Prop} {postX : String → List va_W → Prop}
    (hy : plainName y.cls = true) (hargs : (lg_sl av).length ≤ nL) (body : ∀ X : Fx, Cx E X code y.cls nL fr mc ms rl → RtX E X ret post postX mc ms → (xc X).exceptionTable.toList = tableOf hh → G E l X cs 0 0 0 (lv_args 0 av) []) :
    Mh E l y code nL ret hh fr mc ms rl av cs post postX := by
  intro sz
  refine vx_ofWH (cc := code) (maxL := nL) (ret := ret) (hh := hh) hy rfl ?_
  intro p e s m args below meth c s₁ B hml hv
  obtain ⟨rfl, hsz, hP, hK, hD, hG⟩ := hv
  subst hsz
  have hts := atoms_spec (ws := wsH y code nL ret hh) B.pre
  have hl := lv_entry av (n := nL) hargs
  have ht := vx_table (x := y) B (hts _ List.mem_cons_self)
  rw [lg_entry_eq]
  exact body (p, e, ({ frames := fr, cells := mc, slots := ms, locals := rl } : Room), s, m, av.toArray, below, meth, c, va_A cs.flatten s.heap.size, nL, vx_MQ below (Qx E post (va_A cs.flatten s.heap.size)) (XC0 E postX (va_A cs.flatten s.heap.size)) av.toArray s mc ms (va_A cs.flatten s.heap.size))
    ⟨B.exec, B.bytes, hml, rfl, findClass_of_methodNamed B.named, fun w h => hts w (List.mem_cons_of_mem _ h), B.notSynchronized, rfl, hK, hG, fun q h => Or.inr h⟩ ⟨rfl, B.returns⟩ ht s.heap [] _ hP hD va_S.rf hl
/-- an exception of class C, the object q, on its way at pc -/
def GX (E : EE) (l : Launch) (X : Fx) (cs : List va_W) (kc ks pc : Nat) (lv : List (Nat × Value)) (rest : List Value) (C : String) (q : Nat) : Prop :=
  ∀ (H : Heap) (locs : List Loc) (ls : Array Slot) (ce : Cell), va_P E.1 Cl cs.flatten H → va_D (xA X) cs.flatten → va_S (xA X) (xs X).heap H locs → lv_has ls (xn X) lv → H[q]? = some ce → ce.vm = .none → (xs X).vm.findClass C = some ce.cls →
    vx_W (xp X) l (xe X) (xR X) (xs X) (xm X) (xa X) (xb X) (xM X) (xc X) H locs kc ks (xQ X) (F0 (xm X) pc ls rest) q
section LAYX
variable {E : EE} {l : Launch} {X : Fx} {cc : ByteArray} {own : String} {nL fr mc ms rl : Nat} {cs : List va_W} {kc ks pc : Nat} {lv : List (Nat × Value)} {rest st : List Value} {a : Nat} {post : Option Value → List va_W → Prop} {postX : String → List va_W → Prop}
theorem gx_ret {ret : Option FieldType} (hX : Cx E X cc own nL fr mc ms rl) (hR : RtX E X ret post postX mc ms) (k : ∀ X' : Fx, Cx E X' cc own nL fr mc ms rl → Rt E X' ret post mc ms → G E l X' cs kc ks pc lv st) : G E l X cs kc ks pc lv st := fun H locs ls hP hD hS hl => by
  rw [hR.1]
  exact vx_ret (k (xp X, xe X, xR X, xs X, xm X, xa X, xb X, xM X, xc X, xA X, xn X, MQ (xb X) (Qx E post (xA X)) (xa X) (xs X) mc ms (xA X)) hX ⟨rfl, hR.2⟩ H locs ls hP hD hS hl)
/-- 'throw new C()' -/
theorem gx_throw0 (hX : Cx E X cc own nL fr mc ms rl) {ret : Option FieldType} (hR : RtX E X ret post postX mc ms) (hT : ∀ x ∈ (xc X).exceptionTable.toList, False) (hl0 : l.stackTraces = false) {cls : String} {names : List String} {ik ic : Nat} (hcls : Bundle.fit cls = true) (hnames : ∀ n ∈ names, Bundle.fit n = true)
    (hk : Cond.classLink own ik cls ∈ lw_all) (hini : Cond.initialized cls ∈ lw_all) (hat : ∀ w ∈ vx_at0 own ic cls names, w.before (xa X) (xs X) = true) (hgood : ∀ w ∈ Cond.classLink own ik cls :: Cond.initialized cls :: vx_at0 own ic cls names, vx_ot w = true)
    (d0 : decode cc pc = .ok (.new ik, 3)) (d3 : decode cc (pc + 3) = .ok (.dup, 1)) (d4 : decode cc (pc + 4) = .ok (.invokespecial ic, 3)) (d7 : decode cc (pc + 7) = .ok (.athrow, 1))
    (h1 : names.length + 3 < fr) (h2 : (rest.map fun v => v.category).sum + (13 * (names.length + 1) + 42) ≤ rl) (h3 : kc + 1 ≤ mc) (h4 : ks + 6 ≤ ms) (hp : postX cls cs) : G E l X cs kc ks pc lv rest := fun H locs ls hP hD hS hl => by
  have hRm := hX.2.2.2.2.2.2.2.1
  have hA := hX.2.2.2.2.2.1
  have hG := cx_gs hX
  rw [hR.1]
  refine vx_throw0 (names := names) hX.1 hX.2.1 hl0 hX.2.2.2.2.1 hcls hnames (hA _ hk) (hA _ hini) hat hgood hG.2.2.2.2.2.2.2.2.2.2.2.1 hG.2.2.2.2.2.2.2.2.2.2.2.2.1 hS (hl.1.trans (hX.2.2.2.1.trans hX.2.2.1.symm)) d0 d3 d4 d7 (fun x hx => (hT x hx).elim)
    (by rw [hRm]; exact h1) (by rw [hRm]; exact h2) (by rw [hRm]; exact h3) (by rw [hRm]; exact h4) hX.2.2.2.2.2.2.1 (fun t hvm hz hk9 => ⟨⟨cs, hp, ?_, hD⟩, ?_⟩) hS.2.2 h3 h4
  · exact sp_P.mpr fun q hq => (sp_P.mp hP q hq).kept (hk9 _ (sp_P.mp hP q hq).lt)
  · exact ⟨Nat.le_trans hS.1 hz, fun q h5 h6 => (hk9 q (Nat.lt_of_lt_of_le h5 hS.1)).trans (hS.2.1 q h5 h6)⟩
/-- it goes on to the caller -/
theorem gx_out (hX : Cx E X cc own nL fr mc ms rl) {ret : Option FieldType} (hR : RtX E X ret post postX mc ms) (hT : ∀ x ∈ (xc X).exceptionTable.toList, False) {C : String} {q : Nat} (h3 : kc ≤ mc) (h4 : ks ≤ ms) (hp : postX C cs) : GX E l X cs kc ks pc lv rest C q := fun H locs ls ce hP hD hS hl hce hcv hcl => by
  rw [hR.1]
  exact vx_out (E := C) (fun x hx => (hT x hx).elim) hX.2.2.2.2.2.2.1 hce hcv hcl (fun t ht hvm => ⟨⟨cs, hp, by rw [ht]; exact hP, hD⟩, hS.F ht⟩) hS.2.2 h3 h4
theorem gx_widen {kc1 ks1 : Nat} {C : String} {q : Nat} (h1 : kc ≤ kc1) (h2 : ks ≤ ks1) (k : GX E l X cs kc1 ks1 pc lv rest C q) : GX E l X cs kc ks pc lv rest C q := fun H locs ls ce hP hD hS hl hce hcv hcl => vx_widen h1 h2 (k H locs ls ce hP hD hS hl hce hcv hcl)
/-- caught here -/
theorem gx_catch (hX : Cx E X cc own nL fr mc ms rl) {hh : List (Nat × Nat × Nat × Nat)} (hT : (xc X).exceptionTable.toList = tableOf hh) {C name : String} {q : Nat} (pre : List ExceptionTableEntry) (x : ExceptionTableEntry) (suf : List ExceptionTableEntry) (hsplit : tableOf hh = pre ++ x :: suf)
    (hpass : ∀ z ∈ pre, covers z pc = false ∨ (z.catchType ≠ 0 ∧ ∃ nm : String, Cond.classLink own z.catchType nm ∈ lw_all ∧ va_Nc C nm (xs X))) (hx : covers x pc = true) (h0 : x.catchType ≠ 0) (hlink : Cond.classLink own x.catchType name ∈ lw_all) (hcast : Cond.castable C name ∈ lw_tbl)
    (kk : G E l X cs kc ks x.handlerPc lv [.ref q]) : GX E l X cs kc ks pc lv rest C q := fun H locs ls ce hP hD hS hl hce hcv hcl => by
  have hA := hX.2.2.2.2.2.1
  exact vx_catch hX.2.2.2.2.1 pre x suf (hT.trans hsplit) (fun z hz => (hpass z hz).elim Or.inl (fun h => Or.inr ⟨h.1, h.2.elim fun nm k => ⟨nm, hA _ k.1, k.2⟩⟩)) hx h0 (hA _ hlink) (va_Nw.use rfl (cx_nst hX hcast rfl)) hce hcv hcl (kk H locs ls hP hD hS hl)
theorem gx_run (hX : Cx E X cc own nL fr mc ms rl) {wc wr : List va_W} {H : Heap} {locs : List Loc} {ls : Array Slot} {mc1 ms1 : Nat} {aa : Array Value} (hp : cs.flatten.Perm (wc ++ wr).flatten) (hP : va_P E.1 Cl cs.flatten H) (hD : va_D (xA X) cs.flatten) (hS : va_S (xA X) (xs X).heap H locs) (hl : lv_has ls (xn X) lv)
    (run : vx_Run (xp X) l (xe X) (xR X) (xs X) (xm X) (xa X) (xb X) (xM X) (xc X) H locs kc ks mc1 ms1 (F0 (xm X) pc ls st) rest (Qx E post (va_A wc.flatten H.size) aa) (XC0 E postX (va_A wc.flatten H.size)) (va_A wc.flatten H.size))
    (kk : ∀ (v : Option Value) (w1 : List va_W), post v w1 → G E l X (w1 ++ wr) (kc + mc1) (ks + ms1) (pc + 3) lv (v.toList ++ rest)) (kx : ∀ (C : String) (q : Nat) (w1 : List va_W), postX C w1 → GX E l X (w1 ++ wr) (kc + mc1) (ks + ms1) pc lv rest C q) :
    W (xp X) l (xe X) (xR X) (xs X) (xm X) (xa X) (xb X) (xM X) (xc X) H locs kc ks (xQ X) (F0 (xm X) pc ls st) := by
  intro T hT Xs
  obtain ⟨hF, -⟩ := sp_sub hX hp hP hD hS
  have hp2 := hp
  rw [List.flatten_append] at hp2
  rcases run T hT Xs with ⟨v, st₀, t, T', L, h0, X', hL, e1, e2, ⟨⟨v', w1, hv, hpo, hP1, hD1⟩, hz, hk⟩, stp⟩ | ⟨q, st₀, t, T', L, C, ce, h0, X', hL, e1, e2, ⟨⟨w1, hpo, hP1, hD1⟩, hz, hk⟩, hce, hcv, hcl, stp⟩
  · cases hv
    rw [h0] at hz hk
    obtain ⟨hP2, hD2⟩ := sp_join (H1 := t.heap) (sp_Pp hp2 hP) (sp_Dp hp2 hD) hk hF hP1 hD1
    rw [← List.flatten_append] at hP2 hD2
    rw [← e1] at hP2 hk hz
    obtain ⟨t2, a1, b1⟩ := kk v w1 hpo T'.heap (locs ++ L) ls hP2 hD2 ⟨Nat.le_trans hS.1 hz, fun q h1 h2 => by rw [hk q (Nat.lt_of_lt_of_le h1 hS.1) (fun z => h2 (hF q z))]; exact hS.2.1 q h1 h2, fun q hq => by
        rcases List.mem_append.mp hq with h | h
        · exact hS.2.2 q h
        · exact hF _ (hL q h)⟩ hl T' rfl X'
    exact ⟨t2, stp t2 a1, b1⟩
  · rw [h0] at hz hk
    obtain ⟨hP2, hD2⟩ := sp_join (H1 := t.heap) (sp_Pp hp2 hP) (sp_Dp hp2 hD) hk hF hP1 hD1
    rw [← List.flatten_append] at hP2 hD2
    rw [← e1] at hP2 hk hz hce
    obtain ⟨t2, a1, b1⟩ := kx C q w1 hpo T'.heap (locs ++ L) ls ce hP2 hD2 ⟨Nat.le_trans hS.1 hz, fun q h1 h2 => by rw [hk q (Nat.lt_of_lt_of_le h1 hS.1) (fun z => h2 (hF q z))]; exact hS.2.1 q h1 h2, fun q hq => by
        rcases List.mem_append.mp hq with h | h
        · exact hS.2.2 q h
        · exact hF _ (hL q h)⟩ hl hce hcv hcl T' rfl X'
    exact ⟨t2, stp.trans a1, b1⟩
theorem gx_callS (hX : Cx E X cc own nL fr mc ms rl) {y : MethodName} {code : ByteArray} {nL1 n fr1 mc1 ms1 rl1 index : Nat} {ret : Option FieldType} {As : List Value} {wc wr : List va_W}
    (hk : KS y code nL1 ret n) (hM : Mx E l y code nL1 ret fr1 mc1 ms1 rl1 As wc post postX) (hw : Cond.methodLink own index y ∈ lw_all) (is : List Nat) (hp : pk is cs = some (wc, wr)) (hn : As.length = n) (hst : st = As.reverse ++ rest) (hc : (rest.map fun v => v.category).sum ≤ 8)
    (h1 : fr1 + 1 ≤ fr) (h2 : 8 + (nL1 + 11) + rl1 ≤ rl) (h3 : kc + mc1 ≤ mc) (h4 : ks + ms1 ≤ ms) (hdg : decode cc pc = .ok (.invokestatic index, 3))
    (kx : ∀ (C : String) (q : Nat) (w1 : List va_W), postX C w1 → GX E l X (w1 ++ wr) (kc + mc1) (ks + ms1) pc lv rest C q)
    (kk : ∀ (v : Option Value) (w1 : List va_W), post v w1 → G E l X (w1 ++ wr) (kc + mc1) (ks + ms1) (pc + 3) lv (v.toList ++ rest)) : G E l X cs kc ks pc lv st := fun H locs ls hP hD hS hl => by
  have hR := hX.2.2.2.2.2.2.2.1
  obtain ⟨-, hpre⟩ := sp_sub hX (pk_flat hp) hP hD hS
  exact gx_run hX (pk_flat hp) hP hD hS hl (vx_runS (As := As) (rest := rest) (cx_fix hX) (hM H.size) (va_cwS n hX.2.2.2.2.2.1 (lw_S hw hk.2.1 hk.2.2.1 hk.1) rfl rfl rfl hk.2.2.2 (by rw [hR]; exact ⟨h1, h2⟩))
    ⟨Wd.blind, fun U hU hW => ⟨rfl, by rw [hU], hpre U hU hW⟩⟩ rfl hn (hl.1.trans hX.2.2.2.1) hst (cx_st hc) hdg (by rw [hR]; exact ⟨h3, h4⟩)) kk kx
theorem gx_callV (hX : Cx E X cc own nL fr mc ms rl) {y : MethodName} {code : ByteArray} {nL1 n fr1 mc1 ms1 rl1 b ci N index : Nat} {ret : Option FieldType} {As : List Value} {wc wr : List va_W} {T : u_T} {ty : Nat → FieldType} {fs : List Value}
    (hk : KI y code nL1 ret n) (hM : Mx E l y code nL1 ret fr1 mc1 ms1 rl1 (.ref b :: As) wc post postX) (hw : Cond.methodLink own index y ∈ lw_all) (hf : Fc ci y.cls T N ty) (hm : (b, ob ci fs) ∈ cs.flatten) (is : List Nat) (hp : pk is cs = some (wc, wr)) (hn : As.length = n) (hst : st = As.reverse ++ .ref b :: rest) (hc : (rest.map fun v => v.category).sum ≤ 8)
    (h1 : fr1 + 1 ≤ fr) (h2 : 8 + (nL1 + 11) + rl1 ≤ rl) (h3 : kc + mc1 ≤ mc) (h4 : ks + ms1 ≤ ms) (hdg : decode cc pc = .ok (.invokevirtual index, 3))
    (kx : ∀ (C : String) (q : Nat) (w1 : List va_W), postX C w1 → GX E l X (w1 ++ wr) (kc + mc1) (ks + ms1) pc lv rest C q)
    (kk : ∀ (v : Option Value) (w1 : List va_W), post v w1 → G E l X (w1 ++ wr) (kc + mc1) (ks + ms1) (pc + 3) lv (v.toList ++ rest)) : G E l X cs kc ks pc lv st := fun H locs ls hP hD hS hl => by
  have hR := hX.2.2.2.2.2.2.2.1
  obtain ⟨-, hpre⟩ := sp_sub hX (pk_flat hp) hP hD hS
  obtain ⟨q0, h0⟩ := List.mem_iff_getElem?.mp hm
  exact gx_run hX (pk_flat hp) hP hD hS hl (vx_runV (As := As) (rest := rest) (cx_fix hX) (hM H.size) (cwV n hX.2.2.2.2.2.1 (lw_V hw hk.2.1 hk.2.2.1 hk.2.2.2.1 hk.1) rfl rfl rfl ⟨rfl, hk.2.2.2.2⟩ (by rw [hR]; exact ⟨h1, h2⟩))
    ⟨Wd.blind, va_recv hX.2.2.2.2.2.2.2.2.1 hP hf.1 h0, fun U hU hW => ⟨rfl, by rw [hU], hpre U hU hW⟩⟩ rfl hn (hl.1.trans hX.2.2.2.1) hst (cx_st hc) hdg (by rw [hR]; exact ⟨h3, h4⟩)) kk kx
end LAYX
theorem gx_pk {E : EE} {l : Launch} {X : Fx} {cs : List va_W} {kc ks pc : Nat} {lv : List (Nat × Value)} {rest : List Value} {C : String} {q : Nat} {wc wr : List va_W} (is : List Nat) (hp : pk is cs = some (wc, wr)) (k : GX E l X (wc ++ wr) kc ks pc lv rest C q) : GX E l X cs kc ks pc lv rest C q :=
  fun H locs ls ce hP hD hS hl hce hcv hcl => k H locs ls ce (sp_Pp (pk_flat hp) hP) (sp_Dp (pk_flat hp) hD) hS hl hce hcv hcl
