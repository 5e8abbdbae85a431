/-! THE LAYER: symbolic states over the kit's rows. First the cells: lists of chunks, permutations, frames. -/
set_option maxRecDepth 100000
theorem sp_P {D : va_G} {cl : List vw_C} {ws : va_W} {H : Heap} : va_P D cl ws H ↔ ∀ q ∈ ws, va_at D cl q H := by
  constructor
  · intro h q hq
    obtain ⟨k, hk⟩ := List.mem_iff_getElem?.mp hq
    exact h k q hk
  · intro h k q hk
    exact h q (List.mem_iff_getElem?.mpr ⟨k, hk⟩)
/-- the addresses are apart and of the kind A -/
def sp_D (A : Nat → Prop) (ws : va_W) : Prop := ws.Pairwise (fun p q => p.1 ≠ q.1) ∧ ∀ q ∈ ws, A q.1
theorem sp_Diff {A : Nat → Prop} {ws : va_W} : va_D A ws ↔ sp_D A ws := by
  constructor
  · rintro ⟨h1, h2⟩
    refine ⟨List.pairwise_iff_getElem.mpr fun i j hi hj hij he => ?_, fun q hq => ?_⟩
    · have := h1 i j _ _ (List.getElem?_eq_getElem hi) (List.getElem?_eq_getElem hj) he
      omega
    · obtain ⟨k, hk⟩ := List.mem_iff_getElem?.mp hq
      exact h2 k q hk
  · rintro ⟨h1, h2⟩
    refine ⟨fun i j p q hi hj he => ?_, fun k q hk => h2 q (List.mem_iff_getElem?.mpr ⟨k, hk⟩)⟩
    obtain ⟨hi', ei⟩ := List.getElem?_eq_some_iff.mp hi
    obtain ⟨hj', ej⟩ := List.getElem?_eq_some_iff.mp hj
    have h := List.pairwise_iff_getElem.mp h1
    rcases Nat.lt_trichotomy i j with c | c | c
    · exact absurd (by rw [ei, ej]; exact he) (h i j hi' hj' c)
    · exact c
    · exact absurd (by rw [ei, ej]; exact he.symm) (h j i hj' hi' c)
theorem sp_Pp {D : va_G} {cl : List vw_C} {w1 w2 : va_W} {H : Heap} (hp : w1.Perm w2) (h : va_P D cl w1 H) : va_P D cl w2 H :=
  sp_P.mpr fun q hq => sp_P.mp h q (hp.mem_iff.mpr hq)
theorem sp_Dp {A : Nat → Prop} {w1 w2 : va_W} (hp : w1.Perm w2) (h : va_D A w1) : va_D A w2 := by
  obtain ⟨h1, h2⟩ := sp_Diff.mp h
  exact sp_Diff.mpr ⟨(hp.pairwise_iff (fun h => Ne.symm h)).mp h1, fun q hq => h2 q (hp.mem_iff.mpr hq)⟩
theorem sp_A {ws : va_W} {sz q : Nat} : va_A ws sz q ↔ (∃ e : va_E, (q, e) ∈ ws) ∨ sz ≤ q := by
  constructor
  · rintro (⟨k, e, h⟩ | h)
    · exact Or.inl ⟨e, List.mem_iff_getElem?.mpr ⟨k, h⟩⟩
    · exact Or.inr h
  · rintro (⟨e, h⟩ | h)
    · obtain ⟨k, hk⟩ := List.mem_iff_getElem?.mp h
      exact Or.inl ⟨k, e, hk⟩
    · exact Or.inr h
/-- the frame rule, over lists: the callee's cells wc, the rest wr -/
theorem sp_join {A : Nat → Prop} {D : va_G} {cl : List vw_C} {wc wr w1 : va_W} {H H1 : Heap} (hP : va_P D cl (wc ++ wr) H) (hD : va_D A (wc ++ wr))
    (hk : ∀ q : Nat, q < H.size → ¬ va_A wc H.size q → H1[q]? = H[q]?) (hF : ∀ q, va_A wc H.size q → A q) (hP1 : va_P D cl w1 H1) (hD1 : va_D (va_A wc H.size) w1) :
    va_P D cl (w1 ++ wr) H1 ∧ va_D A (w1 ++ wr) := by
  obtain ⟨d1, d2⟩ := sp_Diff.mp hD
  obtain ⟨e1, e2⟩ := sp_Diff.mp hD1
  rw [List.pairwise_append] at d1
  obtain ⟨-, dr, dx⟩ := d1
  have apart : ∀ q ∈ wr, q.1 < H.size ∧ ¬ va_A wc H.size q.1 := by
    intro q hq
    have hl := (sp_P.mp hP q (List.mem_append_right _ hq)).lt
    refine ⟨hl, fun h => ?_⟩
    rcases sp_A.mp h with ⟨e, he⟩ | h
    · exact dx _ he _ hq rfl
    · omega
  refine ⟨sp_P.mpr fun q hq => ?_, sp_Diff.mpr ⟨List.pairwise_append.mpr ⟨e1, dr, fun x hx y hy he => ?_⟩, fun q hq => ?_⟩⟩
  · rcases List.mem_append.mp hq with h | h
    · exact sp_P.mp hP1 q h
    · exact (sp_P.mp hP q (List.mem_append_right _ h)).kept (hk q.1 (apart q h).1 (apart q h).2)
  · exact (apart y hy).2 (he ▸ e2 x hx)
  · rcases List.mem_append.mp hq with h | h
    · exact hF _ (e2 q h)
    · exact d2 q (List.mem_append_right _ h)
/-- a chunk of one cell, by its place: reading and writing it in the flat list -/
theorem sp_set : ∀ (cs : List va_W) (i : Nat) (x : Nat × va_E), cs[i]? = some [x] → ∃ j : Nat, cs.flatten[j]? = some x ∧ ∀ y : Nat × va_E, cs.flatten.set j y = (cs.set i [y]).flatten := by
  intro cs
  induction cs with
  | nil => intro i x h; simp at h
  | cons c cs ih =>
    intro i x h
    cases i with
    | zero =>
      simp only [List.getElem?_cons_zero, Option.some.injEq] at h
      subst h
      exact ⟨0, rfl, fun y => rfl⟩
    | succ i =>
      simp only [List.getElem?_cons_succ] at h
      obtain ⟨j, h1, h2⟩ := ih i x h
      refine ⟨c.length + j, ?_, fun y => ?_⟩
      · rw [List.flatten_cons, List.getElem?_append_right (Nat.le_add_right _ _), Nat.add_sub_cancel_left]
        exact h1
      · rw [List.flatten_cons, List.set_cons_succ, List.flatten_cons, ← h2 y, List.set_append_right _ _ (Nat.le_add_right _ _), Nat.add_sub_cancel_left]
theorem sp_mem {cs : List va_W} {i : Nat} {x : Nat × va_E} (h : cs[i]? = some [x]) : x ∈ cs.flatten := List.mem_flatten.mpr ⟨_, List.mem_iff_getElem?.mpr ⟨i, h⟩, List.mem_singleton.mpr rfl⟩
theorem sp_in {cs : List va_W} {w : va_W} (i : Nat) (h : cs[i]? = some w) {x : Nat × va_E} (hx : x ∈ w) : x ∈ cs.flatten := List.mem_flatten.mpr ⟨w, List.mem_iff_getElem?.mpr ⟨i, h⟩, hx⟩
/-- chunks picked out by their places (each in what is left), and the rest -/
def pk : List Nat → List va_W → Option (List va_W × List va_W)
  | [], cs => some ([], cs)
  | i :: is, cs => match cs[i]? with
    | none => none
    | some c => match pk is (cs.eraseIdx i) with
      | none => none
      | some r => some (c :: r.1, r.2)
theorem sp_erase : ∀ (cs : List va_W) (i : Nat) (c : va_W), cs[i]? = some c → cs.Perm (c :: cs.eraseIdx i) := by
  intro cs
  induction cs with
  | nil => intro i c h; simp at h
  | cons d cs ih =>
    intro i c h
    cases i with
    | zero =>
      simp only [List.getElem?_cons_zero, Option.some.injEq] at h
      subst h
      exact List.Perm.refl _
    | succ i =>
      simp only [List.getElem?_cons_succ] at h
      rw [List.eraseIdx_cons_succ]
      exact ((ih i c h).cons d).trans (List.Perm.swap _ _ _)
theorem pk_perm : ∀ (is : List Nat) (cs wc wr : List va_W), pk is cs = some (wc, wr) → cs.Perm (wc ++ wr) := by
  intro is
  induction is with
  | nil =>
    intro cs wc wr h
    simp only [pk, Option.some.injEq, Prod.mk.injEq] at h
    obtain ⟨rfl, rfl⟩ := h
    exact List.Perm.refl _
  | cons i is ih =>
    intro cs wc wr h
    simp only [pk] at h
    split at h
    · cases h
    · rename_i c hc
      split at h
      · cases h
      · rename_i r hr
        simp only [Option.some.injEq, Prod.mk.injEq] at h
        obtain ⟨rfl, rfl⟩ := h
        exact (sp_erase cs i c hc).trans ((ih _ _ _ hr).cons c)
theorem pk_flat {is : List Nat} {cs wc wr : List va_W} (h : pk is cs = some (wc, wr)) : cs.flatten.Perm (wc ++ wr).flatten := (pk_perm is cs wc wr h).flatten
/-! the classes, the array classes, what never changes -/
abbrev Cl : List vw_C := [(RX1, TX1, 1), (RX2, TX2, 5), (RX3, TX3, 4), (RX4, TX4, 10), (RX5, TX5, 10), (RX6, TX6, 6), (RX7, TX7, 7), (RX8, TX8, 7), (RX9, TX9, 11), (RX10, TX10, 6), (RX12, TX12, 9), (RX13, TX13, 10), (RX14, TX14, 2), (RX15, TX15, 10), (RX16, TX16, 2), (RJ2, TJ2, 3), (RJ19, TJ19, 4)]
/-- classes, array classes, addresses of the constants: Kind, Word, small Integers, others -/
abbrev EE : Type := va_G × (Nat → ClassId) × (Nat → Nat) × (Nat → Nat) × (Nat → Nat) × (Nat → Nat)
abbrev aC (E : EE) : Nat → ClassId := E.2.1
abbrev aK (E : EE) : Nat → Nat := E.2.2.1
abbrev aW (E : EE) : Nat → Nat := E.2.2.2.1
abbrev aI (E : EE) : Nat → Nat := E.2.2.2.2.1
abbrev aX (E : EE) : Nat → Nat := E.2.2.2.2.2
abbrev TY (E : EE) : List (ClassId × FieldType) := [(aC E 0, .int), (aC E 1, .long), (aC E 2, .object "java/lang/Object"), (aC E 3, .object "Quorumspire$Entry"), (aC E 4, .object "QuorumspireModel$Machine"), (aC E 5, .array .int), (aC E 6, .object "Quorumspire$Kind")]
/-- what is known of a class, by its number in Cl -/
def Fc (ci : Nat) (C : String) (T : u_T) (N : Nat) (ty : Nat → FieldType) : Prop := Cl[ci]? = some (C, T, N) ∧ (∀ w ∈ u_ws C T N, w ∈ lw_all) ∧ (∀ k, k < N → parseFieldDescriptor (T k).2.2.1 = some (ty k)) ∧ (∀ a, a < N → ∀ b, b < N → a ≠ b → (T a).2.1 ≠ (T b).2.1)
theorem fcX1 : Fc 0 RX1 TX1 1 tyX1 := ⟨rfl, in_X1, tyX1_ok, nmX1⟩
theorem fcX2 : Fc 1 RX2 TX2 5 tyX2 := ⟨rfl, in_X2, tyX2_ok, nmX2⟩
theorem fcX3 : Fc 2 RX3 TX3 4 tyX3 := ⟨rfl, in_X3, tyX3_ok, nmX3⟩
theorem fcX4 : Fc 3 RX4 TX4 10 tyX4 := ⟨rfl, in_X4, tyX4_ok, nmX4⟩
theorem fcX5 : Fc 4 RX5 TX5 10 tyX5 := ⟨rfl, in_X5, tyX5_ok, nmX5⟩
theorem fcX6 : Fc 5 RX6 TX6 6 tyX6 := ⟨rfl, in_X6, tyX6_ok, nmX6⟩
theorem fcX7 : Fc 6 RX7 TX7 7 tyX7 := ⟨rfl, in_X7, tyX7_ok, nmX7⟩
theorem fcX8 : Fc 7 RX8 TX8 7 tyX8 := ⟨rfl, in_X8, tyX8_ok, nmX8⟩
theorem fcX9 : Fc 8 RX9 TX9 11 tyX9 := ⟨rfl, in_X9, tyX9_ok, nmX9⟩
theorem fcX10 : Fc 9 RX10 TX10 6 tyX10 := ⟨rfl, in_X10, tyX10_ok, nmX10⟩
theorem fcX12 : Fc 10 RX12 TX12 9 tyX12 := ⟨rfl, in_X12, tyX12_ok, nmX12⟩
theorem fcX13 : Fc 11 RX13 TX13 10 tyX13 := ⟨rfl, in_X13, tyX13_ok, nmX13⟩
theorem fcX14 : Fc 12 RX14 TX14 2 tyX14 := ⟨rfl, in_X14, tyX14_ok, nmX14⟩
theorem fcX15 : Fc 13 RX15 TX15 10 tyX15 := ⟨rfl, in_X15, tyX15_ok, nmX15⟩
theorem fcX16 : Fc 14 RX16 TX16 2 tyX16 := ⟨rfl, in_X16, tyX16_ok, nmX16⟩
theorem fcJ2 : Fc 15 RJ2 TJ2 3 tyJ2 := ⟨rfl, in_J2, tyJ2_ok, nmJ2⟩
theorem fcJ19 : Fc 16 RJ19 TJ19 4 tyJ19 := ⟨rfl, in_J19, tyJ19_ok, nmJ19⟩
/-- the tables' words that do not ride in the lists -/
def xw_is (w : Cond) : Bool := match w with
  | .fieldLinkNest _ _ _ _ _ _ => true
  | .methodLinkNest _ _ _ _ => true
  | .castable _ _ => true
  | .declares _ => true
  | _ => false
def xw_l : List Cond := lw_tbl.filter xw_is
theorem xw_in {w : Cond} (h : w ∈ lw_tbl) (g : xw_is w = true) : w ∈ xw_l := List.mem_filter.mpr ⟨h, g⟩
def xw_AI (U : State) : Prop := (Cond.arrayOver (.array .int)).before #[] U = true ∧ (Cond.interfaceMethod "java/util/Collection" "java/lang/Object" "getClass" "()Ljava/lang/Class;").before #[] U = true ∧
  (Cond.publicMethod ⟨"java/lang/Object", "getClass", "()Ljava/lang/Class;"⟩).before #[] U = true ∧ (Cond.unhidden "java/util/ArrayList" "getClass" "()Ljava/lang/Class;").before #[] U = true
theorem xw_face {s U : State} (hal : s.vm.Alike U.vm) {ref owner name desc : String} (h : (Cond.interfaceMethod ref owner name desc).before #[] s = true) : (Cond.interfaceMethod ref owner name desc).before #[] U = true := by
  have h1 : (Cond.interfaceMethod ref owner name desc).before #[] (s.setVm U.vm) = (Cond.interfaceMethod ref owner name desc).before #[] s := by
    simp only [Cond.before, Cond.holds, Cond.value, State.vm_setVm, hal.findClass, State.methodFound?_setVm hal, State.methodNamed?_setVm hal, arm_isInterface_setVm hal]
  have h2 : (Cond.interfaceMethod ref owner name desc).before #[] U = (Cond.interfaceMethod ref owner name desc).before #[] (s.setVm U.vm) := rfl
  rw [h2, h1]; exact h
theorem xw_AI.moved {u U : State} (hvm : u.vm.Alike U.vm) (h : xw_AI u) : xw_AI U := by
  obtain ⟨h1, h2, h3, h4⟩ := h
  have tr : ∀ {c : Cond}, c.onTables = true → c.before #[] (u.setVm U.vm) = true → c.before #[] U = true := by
    intro c hc h
    have e := Cond.onTables_vm (A := #[]) (A' := #[]) (U := u) (U' := U) U.vm c hc
    have hU : U.setVm U.vm = U := rfl
    rw [hU] at e
    rw [← e]
    exact h
  exact ⟨over_moved hvm h1, xw_face hvm h2, tr rfl (by rw [Cond.publicMethod_setVm hvm]; exact h3), tr rfl (by rw [Cond.unhidden_setVm hvm]; exact h4)⟩
/-- the calls through interfaces: receiver's class, the interface's method, the method that is run -/
def xw_F : List (String × MethodName × MethodName) := [
  ("java/util/ArrayList", ⟨"java/util/List", "size", "()I"⟩, yJ2_size), ("java/util/ArrayList", ⟨"java/util/List", "get", "(I)Ljava/lang/Object;"⟩, yJ2_get),
  ("java/util/ArrayList", ⟨"java/util/List", "add", "(ILjava/lang/Object;)V"⟩, yJ2_add), ("java/util/ArrayList", ⟨"java/util/List", "remove", "(I)Ljava/lang/Object;"⟩, yJ2_remove),
  ("java/util/ArrayList", ⟨"java/util/List", "add", "(Ljava/lang/Object;)Z"⟩, yJ2_add_2), ("java/util/ArrayList", ⟨"java/util/List", "isEmpty", "()Z"⟩, yJ2_isEmpty),
  ("java/util/ArrayList", ⟨"java/util/Collection", "toArray", "()[Ljava/lang/Object;"⟩, yJ2_toArray),
  ("java/util/ArrayList$Itr", ⟨"java/util/Iterator", "hasNext", "()Z"⟩, yJ19_hasNext), ("java/util/ArrayList$Itr", ⟨"java/util/Iterator", "next", "()Ljava/lang/Object;"⟩, yJ19_next)]
def Xw (U : State) : Prop := (∀ w ∈ xw_l, va_Nw w U) ∧ va_AO "java/lang/Object" U ∧ va_AO "Quorumspire$Entry" U ∧ va_AO "QuorumspireModel$Machine" U ∧ va_AO "Quorumspire$Kind" U ∧ xw_AI U ∧ va_Dc U ∧ ∀ t ∈ xw_F, va_Fw t.1 t.2.1 t.2.2 U
theorem xw_F_ok : ∀ t ∈ xw_F, t.2.1.cls ≠ "java/lang/invoke/MethodHandle" ∧ t.2.1.cls ≠ "java/lang/invoke/VarHandle" := by decide +kernel
theorem Xw.moved {s U : State} (hW : s.WarmedH U.vm) (h : Xw s) : Xw U := by
  obtain ⟨h1, h2, h3, h4, h5, h6, h7, h8⟩ := h
  refine ⟨fun w hw => ?_, va_AO.moved hW.alike h2, va_AO.moved hW.alike h3, va_AO.moved hW.alike h4, va_AO.moved hW.alike h5, xw_AI.moved hW.alike h6, va_Dc.moved hW.alike h7, fun t ht => va_Fw.moved (xw_F_ok t ht) hW.alike (h8 t ht)⟩
  have hb := (List.mem_filter.mp hw).2
  have hz := h1 w hw
  unfold xw_is at hb
  split at hb
  · exact va_Nw.warmF hW hz
  · exact va_Nw.warmM hW hz
  · exact va_Nw.warmC hW hz
  · exact va_Nw.warmD hW hz
  · cases hb
abbrev kNm : List String := ["PUT", "GET", "SWAP", "LOCK", "FREE", "PASS"]
abbrev kF : List (String × String × String × List Int32) := [("java/lang/Enum", "ordinal", "I", [0, 1, 2, 3, 4, 5])]
abbrev wNm : List String := ["ASK", "VOTE", "MORE", "HAS", "SNAP"]
abbrev wF : List (String × String × String × List Int32) := [("java/lang/Enum", "ordinal", "I", [0, 1, 2, 3, 4])]
/-- an array of references -/
abbrev qA (c : ClassId) (n : Nat) (f : Nat → Option Nat) : va_E := .inl (c, n, .inr (.inr (.inr (.inr f))))
abbrev iA (c : ClassId) (n : Nat) (f : Nat → Int32) : va_E := .inl (c, n, .inl f)
abbrev lA (c : ClassId) (n : Nat) (f : Nat → Int64) : va_E := .inl (c, n, .inr (.inl f))
abbrev ob (ci : Nat) (fs : List Value) : va_E := .inr (ci, fs)
/-- what is read of statics and constant objects -/
def Gs (E : EE) (A : Nat → Prop) (U : State) (H : Heap) : Prop :=
  va_En "Quorumspire$Kind" "LQuorumspire$Kind;" kNm kF (aK E) A U H ∧ va_En "Quorumspire$Word" "LQuorumspire$Word;" wNm wF (aW E) A U H ∧
  va_Z "java/util/ArrayList" "DEFAULTCAPACITY_EMPTY_ELEMENTDATA" "[Ljava/lang/Object;" (.ref (aX E 0)) A U H ∧ va_Z "java/util/ArrayList" "EMPTY_ELEMENTDATA" "[Ljava/lang/Object;" (.ref (aX E 1)) A U H ∧
  va_Z "Quorumspire$Kind" "$VALUES" "[LQuorumspire$Kind;" (.ref (aX E 2)) A U H ∧
  va_Z "java/lang/Integer$IntegerCache" "high" "I" (.int 127) A U H ∧ va_Z "java/lang/Integer$IntegerCache" "cache" "[Ljava/lang/Integer;" (.ref (aX E 3)) A U H ∧
  va_T (.object "java/lang/Object") (aX E 0) 0 (fun _ => .null) A U H ∧ va_T (.object "java/lang/Object") (aX E 1) 0 (fun _ => .null) A U H ∧
  va_T (.object "java/lang/Integer") (aX E 3) 256 (fun k => .ref (aI E k)) A U H ∧ vb_C (aI E) A U H ∧
  vx_Zq Bundle.tN "UNASSIGNED_STACK" Bundle.steD A U H ∧ vx_Zq Bundle.tN "SUPPRESSED_SENTINEL" Bundle.listD A U H ∧
  (va_at E.1 Cl (aX E 2, qA (aC E 6) 6 (fun i => some (aK E i))) H ∧ ¬ A (aX E 2)) ∧
  va_Mi "[Ljava/lang/Object;" (aX E 4) U ∧ va_Mi "java/util/ArrayList" (aX E 5) U ∧ aX E 0 ≠ aX E 1 ∧ va_O "[Ljava/lang/Object;" (aX E 0) A U H ∧ va_O "[Ljava/lang/Object;" (aX E 1) A U H
theorem Gs.moved {E : EE} {A : Nat → Prop} {u U : State} {H : Heap} (hvm : u.vm.Alike U.vm) (h : Gs E A u H) : Gs E A U H := by
  obtain ⟨h1, h2, h3, h4, h5, h6, h7, h8, h9, h10, h11, h12, h13, h14, h15, h16, h17, h18, h19⟩ := h
  exact ⟨h1.moved hvm, h2.moved hvm, h3.moved hvm, h4.moved hvm, h5.moved hvm, h6.moved hvm, h7.moved hvm, h8.moved hvm, h9.moved hvm, h10.moved hvm, h11.moved hvm, h12.moved hvm, h13.moved hvm, h14, h15.moved hvm, h16.moved hvm, h17, h18.moved hvm, h19.moved hvm⟩
theorem Gs.kept {E : EE} {A : Nat → Prop} {U : State} {H H1 : Heap} (hq : ∀ a : Nat, a < H.size → ¬ A a → H1[a]? = H[a]?) (h : Gs E A U H) : Gs E A U H1 := by
  obtain ⟨h1, h2, h3, h4, h5, h6, h7, h8, h9, h10, h11, h12, h13, h14, h15, h16, h17, h18, h19⟩ := h
  exact ⟨h1.kept hq, h2.kept hq, h3.kept hq, h4.kept hq, h5.kept hq, h6.kept hq, h7.kept hq, h8.kept hq, h9.kept hq, h10.kept hq, h11.kept hq, h12.kept hq, h13.kept hq, ⟨h14.1.kept (hq _ h14.1.lt h14.2), h14.2⟩, h15, h16, h17, h18.kept hq, h19.kept hq⟩
theorem Gs.narrow {E : EE} {A B : Nat → Prop} {U : State} {H : Heap} (hAB : ∀ q, B q → A q) (h : Gs E A U H) : Gs E B U H := by
  obtain ⟨h1, h2, h3, h4, h5, h6, h7, h8, h9, h10, h11, h12, h13, h14, h15, h16, h17, h18, h19⟩ := h
  exact ⟨h1.narrow hAB, h2.narrow hAB, h3.narrow hAB, h4.narrow hAB, h5.narrow hAB, h6.narrow hAB, h7.narrow hAB, h8.narrow hAB, h9.narrow hAB, h10.narrow hAB, h11.narrow hAB, h12.narrow hAB, h13.narrow hAB, ⟨h14.1, fun z => h14.2 (hAB _ z)⟩, h15, h16, h17, h18.narrow hAB, h19.narrow hAB⟩
def Gl (E : EE) (A : Nat → Prop) (U : State) (H : Heap) : Prop := Xw U ∧ Gs E A U H
theorem Xw.same {u U : State} (e : u.vm = U.vm) (h : Xw u) : Xw U := by
  obtain ⟨h1, h2, h3, h4, h5, h6, h7, h8⟩ := h
  have ha : u.vm.Alike U.vm := e ▸ Vm.Alike.refl u.vm
  refine ⟨fun w hw => ?_, va_AO.moved ha h2, va_AO.moved ha h3, va_AO.moved ha h4, va_AO.moved ha h5, xw_AI.moved ha h6, va_Dc.moved ha h7, fun t ht => va_Fw.moved (xw_F_ok t ht) ha (h8 t ht)⟩
  have hb := (List.mem_filter.mp hw).2
  have hz := h1 w hw
  unfold xw_is at hb
  split at hb
  · exact va_Nw.same rfl e hz
  · exact va_Nw.same rfl e hz
  · exact va_Nw.same rfl e hz
  · exact va_Nw.same rfl e hz
  · cases hb
/-! states, contracts -/
abbrev Fx : Type := Program × Env × Room × State × MethodId × Array Value × List Frame × Method × Code × (Nat → Prop) × Nat × (State → Prop)
abbrev xp (X : Fx) : Program := X.1
abbrev xe (X : Fx) : Env := X.2.1
abbrev xR (X : Fx) : Room := X.2.2.1
abbrev xs (X : Fx) : State := X.2.2.2.1
abbrev xm (X : Fx) : MethodId := X.2.2.2.2.1
abbrev xa (X : Fx) : Array Value := X.2.2.2.2.2.1
abbrev xb (X : Fx) : List Frame := X.2.2.2.2.2.2.1
abbrev xM (X : Fx) : Method := X.2.2.2.2.2.2.2.1
abbrev xc (X : Fx) : Code := X.2.2.2.2.2.2.2.2.1
abbrev xA (X : Fx) : Nat → Prop := X.2.2.2.2.2.2.2.2.2.1
abbrev xn (X : Fx) : Nat := X.2.2.2.2.2.2.2.2.2.2.1
abbrev xQ (X : Fx) : State → Prop := X.2.2.2.2.2.2.2.2.2.2.2
/-- the machine comes to its end from: the cells cs, kc cells and ks slots made, at pc, with locals lv and stack st -/
def G (E : EE) (l : Launch) (X : Fx) (cs : List va_W) (kc ks pc : Nat) (lv : List (Nat × Value)) (st : List Value) : Prop :=
  ∀ (H : Heap) (locs : List Loc) (ls : Array Slot), va_P E.1 Cl cs.flatten H → va_D (xA X) cs.flatten → va_S (xA X) (xs X).heap H locs → lv_has ls (xn X) lv →
    W (xp X) l (xe X) (xR X) (xs X) (xm X) (xa X) (xb X) (xM X) (xc X) H locs kc ks (xQ X) (F0 (xm X) pc ls st)
/-- what holds all through a method's run: code cc of class own, nL locals, the room -/
def Cx (E : EE) (X : Fx) (cc : ByteArray) (own : String) (nL fr mc ms rl : Nat) : Prop :=
  (xp X).tables.exec = Jvm.exec ∧ (xc X).code = cc ∧ (xc X).maxLocals = nL ∧ xn X = nL ∧ (xs X).vm.findClass own = some (xm X).cls ∧ (∀ w ∈ lw_all, w.before (xa X) (xs X) = true) ∧ (xM X).locks = false ∧
  xR X = ({ frames := fr, cells := mc, slots := ms, locals := rl } : Room) ∧ va_K E.1 Cl (TY E) (xs X) ∧ Gl E (xA X) (xs X) (xs X).heap ∧ ∀ q : Nat, (xs X).heap.size ≤ q → xA X q
def Wd (E : EE) (A : Nat → Prop) (cs : List va_W) (U : State) : Prop := va_P E.1 Cl cs.flatten U.heap ∧ va_K E.1 Cl (TY E) U ∧ va_D A cs.flatten ∧ Gl E A U U.heap
def Qx (E : EE) (post : Option Value → List va_W → Prop) (A : Nat → Prop) : Array Value → State → Outcome → State → Prop := fun _ st oc t =>
  (∃ (v : Option Value) (cs : List va_W), oc = .returned v ∧ post v cs ∧ va_P E.1 Cl cs.flatten t.heap ∧ va_D A cs.flatten) ∧ va_F A st t
/-- a method's contract: called with av over the cells cs it returns, with 'post answer cells'; it makes at most mc cells of ms slots and changes nothing else -/
def Mt (E : EE) (l : Launch) (y : MethodName) (code : ByteArray) (nL : Nat) (ret : Option FieldType) (fr mc ms rl : Nat) (av : List Value) (cs : List va_W) (post : Option Value → List va_W → Prop) : Prop :=
  ∀ sz : Nat, Met l y (ws_ y code nL ret) ({ frames := fr, cells := mc, slots := ms, locals := rl } : Room) (va_Pc av (fun U => U.heap.size = sz ∧ Wd E (va_A cs.flatten sz) cs U)) (Qx E post (va_A cs.flatten sz)) mc ms (va_A cs.flatten sz)
def Rt (E : EE) (X : Fx) (ret : Option FieldType) (post : Option Value → List va_W → Prop) (mc ms : Nat) : Prop :=
  xQ X = MQ (xb X) (Qx E post (xA X)) (xa X) (xs X) mc ms (xA X) ∧ (xM X).sig.returnType = ret
theorem Gl.call {E : EE} {s U : State} {A B : Nat → Prop} {H : Heap} (h : Gl E A s s.heap) (hW : s.WarmedH U.vm) (hq : ∀ a : Nat, a < s.heap.size → ¬ A a → H[a]? = s.heap[a]?) (hAB : ∀ q, B q → A q) : Gl E B U H :=
  ⟨h.1.moved hW, ((h.2.kept hq).narrow hAB).moved hW.alike⟩
theorem Wd.blind {E : EE} {av : List Value} {sz : Nat} {A : Nat → Prop} {cs : List va_W} : FrameBlind (va_Pc av (fun U => U.heap.size = sz ∧ Wd E A cs U)) := by
  intro a U g mk q
  obtain ⟨q0, q1, qP, qK, qD, qG⟩ := q
  exact ⟨q0, q1, qP, va_K.moved (u := U) (U := U.calling g mk a) (Vm.Alike.refl U.vm) qK, qD, qG.1.same (u := U) (U := U.calling g mk a) rfl, qG.2.moved (u := U) (U := U.calling g mk a) (Vm.Alike.refl U.vm)⟩
section LAY
variable {E : EE} {l : Launch} {X : Fx} {cc : ByteArray} {own : String} {nL fr mc ms rl : Nat} {cs : List va_W} {kc ks pc : Nat} {lv : List (Nat × Value)} {rest st : List Value} {a : Nat} {post : Option Value → List va_W → Prop}
theorem g_iconst (hX : Cx E X cc own nL fr mc ms rl) {n : Int} {v : Int32} (hdg : decode cc pc = .ok (.iconst n, 1)) (hv : Int32.ofInt n = v) (k : G E l X cs kc ks (pc + 1) lv (.int v :: rest)) : G E l X cs kc ks pc lv (rest) := fun H locs ls hP hD hS hl => lv_iconst hX.1 hX.2.1 hdg hv (k H locs ls hP hD hS hl)
theorem g_bipush (hX : Cx E X cc own nL fr mc ms rl) {n : Int} {v : Int32} (hdg : decode cc pc = .ok (.bipush n, 2)) (hv : (Int8.ofInt n).toInt32 = v) (k : G E l X cs kc ks (pc + 2) lv (.int v :: rest)) : G E l X cs kc ks pc lv (rest) := fun H locs ls hP hD hS hl => lv_bipush hX.1 hX.2.1 hdg hv (k H locs ls hP hD hS hl)
theorem g_sipush (hX : Cx E X cc own nL fr mc ms rl) {n : Int} {v : Int32} (hdg : decode cc pc = .ok (.sipush n, 3)) (hv : (Int16.ofInt n).toInt32 = v) (k : G E l X cs kc ks (pc + 3) lv (.int v :: rest)) : G E l X cs kc ks pc lv (rest) := fun H locs ls hP hD hS hl => lv_sipush hX.1 hX.2.1 hdg hv (k H locs ls hP hD hS hl)
theorem g_lconst (hX : Cx E X cc own nL fr mc ms rl) {n : Fin 2} {v : Int64} (hdg : decode cc pc = .ok (.lconst n, 1)) (hv : Int64.ofNat (n : Nat) = v) (k : G E l X cs kc ks (pc + 1) lv (.long v :: rest)) : G E l X cs kc ks pc lv (rest) := fun H locs ls hP hD hS hl => lv_lconst hX.1 hX.2.1 hdg hv (k H locs ls hP hD hS hl)
theorem g_dconst0 (hX : Cx E X cc own nL fr mc ms rl) (hdg : decode cc pc = .ok (.dconst 0, 1)) (k : G E l X cs kc ks (pc + 1) lv (.double FP.dconst0 :: rest)) : G E l X cs kc ks pc lv (rest) := fun H locs ls hP hD hS hl => lv_dconst0 hX.1 hX.2.1 hdg (k H locs ls hP hD hS hl)
theorem g_iadd (hX : Cx E X cc own nL fr mc ms rl) {x y : Int32} (hdg : decode cc pc = .ok (.iadd, 1)) (k : G E l X cs kc ks (pc + 1) lv (.int (x + y) :: rest)) : G E l X cs kc ks pc lv (.int y :: .int x :: rest) := fun H locs ls hP hD hS hl => lv_iadd hX.1 hX.2.1 hdg (k H locs ls hP hD hS hl)
theorem g_isub (hX : Cx E X cc own nL fr mc ms rl) {x y : Int32} (hdg : decode cc pc = .ok (.isub, 1)) (k : G E l X cs kc ks (pc + 1) lv (.int (x - y) :: rest)) : G E l X cs kc ks pc lv (.int y :: .int x :: rest) := fun H locs ls hP hD hS hl => lv_isub hX.1 hX.2.1 hdg (k H locs ls hP hD hS hl)
theorem g_imul (hX : Cx E X cc own nL fr mc ms rl) {x y : Int32} (hdg : decode cc pc = .ok (.imul, 1)) (k : G E l X cs kc ks (pc + 1) lv (.int (x * y) :: rest)) : G E l X cs kc ks pc lv (.int y :: .int x :: rest) := fun H locs ls hP hD hS hl => lv_imul hX.1 hX.2.1 hdg (k H locs ls hP hD hS hl)
theorem g_iand (hX : Cx E X cc own nL fr mc ms rl) {x y : Int32} (hdg : decode cc pc = .ok (.iand, 1)) (k : G E l X cs kc ks (pc + 1) lv (.int (x &&& y) :: rest)) : G E l X cs kc ks pc lv (.int y :: .int x :: rest) := fun H locs ls hP hD hS hl => lv_iand hX.1 hX.2.1 hdg (k H locs ls hP hD hS hl)
theorem g_ior (hX : Cx E X cc own nL fr mc ms rl) {x y : Int32} (hdg : decode cc pc = .ok (.ior, 1)) (k : G E l X cs kc ks (pc + 1) lv (.int (x ||| y) :: rest)) : G E l X cs kc ks pc lv (.int y :: .int x :: rest) := fun H locs ls hP hD hS hl => lv_ior hX.1 hX.2.1 hdg (k H locs ls hP hD hS hl)
theorem g_idiv (hX : Cx E X cc own nL fr mc ms rl) {x y : Int32} (hdg : decode cc pc = .ok (.idiv, 1)) (hne : ¬ y = 0) (k : G E l X cs kc ks (pc + 1) lv (.int (x / y) :: rest)) : G E l X cs kc ks pc lv (.int y :: .int x :: rest) := fun H locs ls hP hD hS hl => lv_idiv hX.1 hX.2.1 hdg hne (k H locs ls hP hD hS hl)
theorem g_irem (hX : Cx E X cc own nL fr mc ms rl) {x y : Int32} (hdg : decode cc pc = .ok (.irem, 1)) (hne : ¬ y = 0) (k : G E l X cs kc ks (pc + 1) lv (.int (x - x / y * y) :: rest)) : G E l X cs kc ks pc lv (.int y :: .int x :: rest) := fun H locs ls hP hD hS hl => lv_irem hX.1 hX.2.1 hdg hne (k H locs ls hP hD hS hl)
theorem g_ineg (hX : Cx E X cc own nL fr mc ms rl) {x : Int32} (hdg : decode cc pc = .ok (.ineg, 1)) (k : G E l X cs kc ks (pc + 1) lv (.int (-x) :: rest)) : G E l X cs kc ks pc lv (.int x :: rest) := fun H locs ls hP hD hS hl => lv_ineg hX.1 hX.2.1 hdg (k H locs ls hP hD hS hl)
theorem g_ladd (hX : Cx E X cc own nL fr mc ms rl) {x y : Int64} (hdg : decode cc pc = .ok (.ladd, 1)) (k : G E l X cs kc ks (pc + 1) lv (.long (x + y) :: rest)) : G E l X cs kc ks pc lv (.long y :: .long x :: rest) := fun H locs ls hP hD hS hl => lv_ladd hX.1 hX.2.1 hdg (k H locs ls hP hD hS hl)
theorem g_lsub (hX : Cx E X cc own nL fr mc ms rl) {x y : Int64} (hdg : decode cc pc = .ok (.lsub, 1)) (k : G E l X cs kc ks (pc + 1) lv (.long (x - y) :: rest)) : G E l X cs kc ks pc lv (.long y :: .long x :: rest) := fun H locs ls hP hD hS hl => lv_lsub hX.1 hX.2.1 hdg (k H locs ls hP hD hS hl)
theorem g_lmul (hX : Cx E X cc own nL fr mc ms rl) {x y : Int64} (hdg : decode cc pc = .ok (.lmul, 1)) (k : G E l X cs kc ks (pc + 1) lv (.long (x * y) :: rest)) : G E l X cs kc ks pc lv (.long y :: .long x :: rest) := fun H locs ls hP hD hS hl => lv_lmul hX.1 hX.2.1 hdg (k H locs ls hP hD hS hl)
theorem g_land (hX : Cx E X cc own nL fr mc ms rl) {x y : Int64} (hdg : decode cc pc = .ok (.land, 1)) (k : G E l X cs kc ks (pc + 1) lv (.long (x &&& y) :: rest)) : G E l X cs kc ks pc lv (.long y :: .long x :: rest) := fun H locs ls hP hD hS hl => lv_land hX.1 hX.2.1 hdg (k H locs ls hP hD hS hl)
theorem g_lor (hX : Cx E X cc own nL fr mc ms rl) {x y : Int64} (hdg : decode cc pc = .ok (.lor, 1)) (k : G E l X cs kc ks (pc + 1) lv (.long (x ||| y) :: rest)) : G E l X cs kc ks pc lv (.long y :: .long x :: rest) := fun H locs ls hP hD hS hl => lv_lor hX.1 hX.2.1 hdg (k H locs ls hP hD hS hl)
theorem g_ishl (hX : Cx E X cc own nL fr mc ms rl) {x y : Int32} (hdg : decode cc pc = .ok (.ishl, 1)) (k : G E l X cs kc ks (pc + 1) lv (.int (x <<< (y &&& 31)) :: rest)) : G E l X cs kc ks pc lv (.int y :: .int x :: rest) := fun H locs ls hP hD hS hl => lv_ishl hX.1 hX.2.1 hdg (k H locs ls hP hD hS hl)
theorem g_ishr (hX : Cx E X cc own nL fr mc ms rl) {x y : Int32} (hdg : decode cc pc = .ok (.ishr, 1)) (k : G E l X cs kc ks (pc + 1) lv (.int (x >>> (y &&& 31)) :: rest)) : G E l X cs kc ks pc lv (.int y :: .int x :: rest) := fun H locs ls hP hD hS hl => lv_ishr hX.1 hX.2.1 hdg (k H locs ls hP hD hS hl)
theorem g_iushr (hX : Cx E X cc own nL fr mc ms rl) {x y v : Int32} (hdg : decode cc pc = .ok (.iushr, 1)) (hv : (x.toUInt32 >>> (y.toUInt32 &&& Int32.toUInt32 31)).toInt32 = v) (k : G E l X cs kc ks (pc + 1) lv (.int v :: rest)) : G E l X cs kc ks pc lv (.int y :: .int x :: rest) := fun H locs ls hP hD hS hl => lv_iushr hX.1 hX.2.1 hdg hv (k H locs ls hP hD hS hl)
theorem g_i2l (hX : Cx E X cc own nL fr mc ms rl) {x : Int32} {v : Int64} (hdg : decode cc pc = .ok (.i2l, 1)) (hv : x.toInt64 = v) (k : G E l X cs kc ks (pc + 1) lv (.long v :: rest)) : G E l X cs kc ks pc lv (.int x :: rest) := fun H locs ls hP hD hS hl => lv_i2l hX.1 hX.2.1 hdg hv (k H locs ls hP hD hS hl)
theorem g_i2d (hX : Cx E X cc own nL fr mc ms rl) {x : Int32} (hdg : decode cc pc = .ok (.i2d, 1)) (k : G E l X cs kc ks (pc + 1) lv (.double (FP.i2d x) :: rest)) : G E l X cs kc ks pc lv (.int x :: rest) := fun H locs ls hP hD hS hl => lv_i2d hX.1 hX.2.1 hdg (k H locs ls hP hD hS hl)
theorem g_lshl (hX : Cx E X cc own nL fr mc ms rl) {x v : Int64} {y : Int32} (hdg : decode cc pc = .ok (.lshl, 1)) (hv : x <<< (y.toInt64 &&& 63) = v) (k : G E l X cs kc ks (pc + 1) lv (.long v :: rest)) : G E l X cs kc ks pc lv (.int y :: .long x :: rest) := fun H locs ls hP hD hS hl => lv_lshl hX.1 hX.2.1 hdg hv (k H locs ls hP hD hS hl)
theorem g_lshr (hX : Cx E X cc own nL fr mc ms rl) {x v : Int64} {y : Int32} (hdg : decode cc pc = .ok (.lshr, 1)) (hv : x >>> (y.toInt64 &&& 63) = v) (k : G E l X cs kc ks (pc + 1) lv (.long v :: rest)) : G E l X cs kc ks pc lv (.int y :: .long x :: rest) := fun H locs ls hP hD hS hl => lv_lshr hX.1 hX.2.1 hdg hv (k H locs ls hP hD hS hl)
theorem g_dup (hX : Cx E X cc own nL fr mc ms rl) {va : Value} (hdg : decode cc pc = .ok (.dup, 1)) (hva : va.category = 1) (k : G E l X cs kc ks (pc + 1) lv (va :: va :: rest)) : G E l X cs kc ks pc lv (va :: rest) := fun H locs ls hP hD hS hl => lv_dup hX.1 hX.2.1 hdg hva (k H locs ls hP hD hS hl)
theorem g_pop (hX : Cx E X cc own nL fr mc ms rl) {va : Value} (hdg : decode cc pc = .ok (.pop, 1)) (hva : va.category = 1) (k : G E l X cs kc ks (pc + 1) lv (rest)) : G E l X cs kc ks pc lv (va :: rest) := fun H locs ls hP hD hS hl => lv_pop hX.1 hX.2.1 hdg hva (k H locs ls hP hD hS hl)
theorem g_dup_x1 (hX : Cx E X cc own nL fr mc ms rl) {va vb : Value} (hdg : decode cc pc = .ok (.dup_x1, 1)) (hva : va.category = 1) (hvb : vb.category = 1) (k : G E l X cs kc ks (pc + 1) lv (va :: vb :: va :: rest)) : G E l X cs kc ks pc lv (va :: vb :: rest) := fun H locs ls hP hD hS hl => lv_dup_x1 hX.1 hX.2.1 hdg hva hvb (k H locs ls hP hD hS hl)
theorem g_dup2_11 (hX : Cx E X cc own nL fr mc ms rl) {va vb : Value} (hdg : decode cc pc = .ok (.dup2, 1)) (hva : va.category = 1) (hvb : vb.category = 1) (k : G E l X cs kc ks (pc + 1) lv (va :: vb :: va :: vb :: rest)) : G E l X cs kc ks pc lv (va :: vb :: rest) := fun H locs ls hP hD hS hl => lv_dup2_11 hX.1 hX.2.1 hdg hva hvb (k H locs ls hP hD hS hl)
theorem g_ddiv (hX : Cx E X cc own nL fr mc ms rl) {x y : UInt64} (hdg : decode cc pc = .ok (.ddiv, 1)) (hne : vf_n64 (FP.ddiv x y)) (k : G E l X cs kc ks (pc + 1) lv (.double (FP.ddiv x y) :: rest)) : G E l X cs kc ks pc lv (.double y :: .double x :: rest) := fun H locs ls hP hD hS hl => lv_ddiv hX.1 hX.2.1 hdg hne (k H locs ls hP hD hS hl)
theorem g_dcmp (hX : Cx E X cc own nL fr mc ms rl) {x y : UInt64} {op : CmpOp} (hdg : decode cc pc = .ok (.dcmp op, 1)) (k : G E l X cs kc ks (pc + 1) lv (.int (Op.cmpValue (FP.dcmp x y) op) :: rest)) : G E l X cs kc ks pc lv (.double y :: .double x :: rest) := fun H locs ls hP hD hS hl => lv_dcmp hX.1 hX.2.1 hdg (k H locs ls hP hD hS hl)
theorem g_if_eq (hX : Cx E X cc own nL fr mc ms rl) {x : Int32} {off : Int} {tgt : Nat} (hdg : decode cc pc = .ok (.ifCond .eq off, 3)) (ht : (pc : Int) + off = (tgt : Int)) (kt : x = 0 → G E l X cs kc ks tgt lv rest) (kf : ¬ x = 0 → G E l X cs kc ks (pc + 3) lv rest) : G E l X cs kc ks pc lv (.int x :: rest) := fun H locs ls hP hD hS hl => lv_if_eq hX.1 hX.2.1 hdg ht (fun z => kt z H locs ls hP hD hS hl) (fun z => kf z H locs ls hP hD hS hl)
theorem g_if_ne (hX : Cx E X cc own nL fr mc ms rl) {x : Int32} {off : Int} {tgt : Nat} (hdg : decode cc pc = .ok (.ifCond .ne off, 3)) (ht : (pc : Int) + off = (tgt : Int)) (kt : ¬ x = 0 → G E l X cs kc ks tgt lv rest) (kf : x = 0 → G E l X cs kc ks (pc + 3) lv rest) : G E l X cs kc ks pc lv (.int x :: rest) := fun H locs ls hP hD hS hl => lv_if_ne hX.1 hX.2.1 hdg ht (fun z => kt z H locs ls hP hD hS hl) (fun z => kf z H locs ls hP hD hS hl)
theorem g_if_lt (hX : Cx E X cc own nL fr mc ms rl) {x : Int32} {off : Int} {tgt : Nat} (hdg : decode cc pc = .ok (.ifCond .lt off, 3)) (ht : (pc : Int) + off = (tgt : Int)) (kt : x < 0 → G E l X cs kc ks tgt lv rest) (kf : ¬ x < 0 → G E l X cs kc ks (pc + 3) lv rest) : G E l X cs kc ks pc lv (.int x :: rest) := fun H locs ls hP hD hS hl => lv_if_lt hX.1 hX.2.1 hdg ht (fun z => kt z H locs ls hP hD hS hl) (fun z => kf z H locs ls hP hD hS hl)
theorem g_if_ge (hX : Cx E X cc own nL fr mc ms rl) {x : Int32} {off : Int} {tgt : Nat} (hdg : decode cc pc = .ok (.ifCond .ge off, 3)) (ht : (pc : Int) + off = (tgt : Int)) (kt : 0 ≤ x → G E l X cs kc ks tgt lv rest) (kf : ¬ 0 ≤ x → G E l X cs kc ks (pc + 3) lv rest) : G E l X cs kc ks pc lv (.int x :: rest) := fun H locs ls hP hD hS hl => lv_if_ge hX.1 hX.2.1 hdg ht (fun z => kt z H locs ls hP hD hS hl) (fun z => kf z H locs ls hP hD hS hl)
theorem g_if_gt (hX : Cx E X cc own nL fr mc ms rl) {x : Int32} {off : Int} {tgt : Nat} (hdg : decode cc pc = .ok (.ifCond .gt off, 3)) (ht : (pc : Int) + off = (tgt : Int)) (kt : 0 < x → G E l X cs kc ks tgt lv rest) (kf : ¬ 0 < x → G E l X cs kc ks (pc + 3) lv rest) : G E l X cs kc ks pc lv (.int x :: rest) := fun H locs ls hP hD hS hl => lv_if_gt hX.1 hX.2.1 hdg ht (fun z => kt z H locs ls hP hD hS hl) (fun z => kf z H locs ls hP hD hS hl)
theorem g_if_le (hX : Cx E X cc own nL fr mc ms rl) {x : Int32} {off : Int} {tgt : Nat} (hdg : decode cc pc = .ok (.ifCond .le off, 3)) (ht : (pc : Int) + off = (tgt : Int)) (kt : x ≤ 0 → G E l X cs kc ks tgt lv rest) (kf : ¬ x ≤ 0 → G E l X cs kc ks (pc + 3) lv rest) : G E l X cs kc ks pc lv (.int x :: rest) := fun H locs ls hP hD hS hl => lv_if_le hX.1 hX.2.1 hdg ht (fun z => kt z H locs ls hP hD hS hl) (fun z => kf z H locs ls hP hD hS hl)
theorem g_icmp_eq (hX : Cx E X cc own nL fr mc ms rl) {x y : Int32} {off : Int} {tgt : Nat} (hdg : decode cc pc = .ok (.if_icmp .eq off, 3)) (ht : (pc : Int) + off = (tgt : Int)) (kt : x = y → G E l X cs kc ks tgt lv rest) (kf : ¬ x = y → G E l X cs kc ks (pc + 3) lv rest) : G E l X cs kc ks pc lv (.int y :: .int x :: rest) := fun H locs ls hP hD hS hl => lv_icmp_eq hX.1 hX.2.1 hdg ht (fun z => kt z H locs ls hP hD hS hl) (fun z => kf z H locs ls hP hD hS hl)
theorem g_icmp_ne (hX : Cx E X cc own nL fr mc ms rl) {x y : Int32} {off : Int} {tgt : Nat} (hdg : decode cc pc = .ok (.if_icmp .ne off, 3)) (ht : (pc : Int) + off = (tgt : Int)) (kt : ¬ x = y → G E l X cs kc ks tgt lv rest) (kf : x = y → G E l X cs kc ks (pc + 3) lv rest) : G E l X cs kc ks pc lv (.int y :: .int x :: rest) := fun H locs ls hP hD hS hl => lv_icmp_ne hX.1 hX.2.1 hdg ht (fun z => kt z H locs ls hP hD hS hl) (fun z => kf z H locs ls hP hD hS hl)
theorem g_icmp_lt (hX : Cx E X cc own nL fr mc ms rl) {x y : Int32} {off : Int} {tgt : Nat} (hdg : decode cc pc = .ok (.if_icmp .lt off, 3)) (ht : (pc : Int) + off = (tgt : Int)) (kt : x < y → G E l X cs kc ks tgt lv rest) (kf : ¬ x < y → G E l X cs kc ks (pc + 3) lv rest) : G E l X cs kc ks pc lv (.int y :: .int x :: rest) := fun H locs ls hP hD hS hl => lv_icmp_lt hX.1 hX.2.1 hdg ht (fun z => kt z H locs ls hP hD hS hl) (fun z => kf z H locs ls hP hD hS hl)
theorem g_icmp_ge (hX : Cx E X cc own nL fr mc ms rl) {x y : Int32} {off : Int} {tgt : Nat} (hdg : decode cc pc = .ok (.if_icmp .ge off, 3)) (ht : (pc : Int) + off = (tgt : Int)) (kt : y ≤ x → G E l X cs kc ks tgt lv rest) (kf : ¬ y ≤ x → G E l X cs kc ks (pc + 3) lv rest) : G E l X cs kc ks pc lv (.int y :: .int x :: rest) := fun H locs ls hP hD hS hl => lv_icmp_ge hX.1 hX.2.1 hdg ht (fun z => kt z H locs ls hP hD hS hl) (fun z => kf z H locs ls hP hD hS hl)
theorem g_icmp_gt (hX : Cx E X cc own nL fr mc ms rl) {x y : Int32} {off : Int} {tgt : Nat} (hdg : decode cc pc = .ok (.if_icmp .gt off, 3)) (ht : (pc : Int) + off = (tgt : Int)) (kt : y < x → G E l X cs kc ks tgt lv rest) (kf : ¬ y < x → G E l X cs kc ks (pc + 3) lv rest) : G E l X cs kc ks pc lv (.int y :: .int x :: rest) := fun H locs ls hP hD hS hl => lv_icmp_gt hX.1 hX.2.1 hdg ht (fun z => kt z H locs ls hP hD hS hl) (fun z => kf z H locs ls hP hD hS hl)
theorem g_icmp_le (hX : Cx E X cc own nL fr mc ms rl) {x y : Int32} {off : Int} {tgt : Nat} (hdg : decode cc pc = .ok (.if_icmp .le off, 3)) (ht : (pc : Int) + off = (tgt : Int)) (kt : x ≤ y → G E l X cs kc ks tgt lv rest) (kf : ¬ x ≤ y → G E l X cs kc ks (pc + 3) lv rest) : G E l X cs kc ks pc lv (.int y :: .int x :: rest) := fun H locs ls hP hD hS hl => lv_icmp_le hX.1 hX.2.1 hdg ht (fun z => kt z H locs ls hP hD hS hl) (fun z => kf z H locs ls hP hD hS hl)
theorem g_acmp_eq (hX : Cx E X cc own nL fr mc ms rl) {rx ry : Option Nat} {off : Int} {tgt : Nat} (hdg : decode cc pc = .ok (.if_acmp .eq off, 3)) (ht : (pc : Int) + off = (tgt : Int)) (kt : rx = ry → G E l X cs kc ks tgt lv rest) (kf : ¬ rx = ry → G E l X cs kc ks (pc + 3) lv rest) : G E l X cs kc ks pc lv (va_rf ry :: va_rf rx :: rest) := fun H locs ls hP hD hS hl => lv_acmp_eq hX.1 hX.2.1 hdg ht (fun z => kt z H locs ls hP hD hS hl) (fun z => kf z H locs ls hP hD hS hl)
theorem g_acmp_ne (hX : Cx E X cc own nL fr mc ms rl) {rx ry : Option Nat} {off : Int} {tgt : Nat} (hdg : decode cc pc = .ok (.if_acmp .ne off, 3)) (ht : (pc : Int) + off = (tgt : Int)) (kt : ¬ rx = ry → G E l X cs kc ks tgt lv rest) (kf : rx = ry → G E l X cs kc ks (pc + 3) lv rest) : G E l X cs kc ks pc lv (va_rf ry :: va_rf rx :: rest) := fun H locs ls hP hD hS hl => lv_acmp_ne hX.1 hX.2.1 hdg ht (fun z => kt z H locs ls hP hD hS hl) (fun z => kf z H locs ls hP hD hS hl)
theorem g_goto (hX : Cx E X cc own nL fr mc ms rl) {off : Int} {tgt : Nat} (hdg : decode cc pc = .ok (.goto off, 3)) (ht : (pc : Int) + off = (tgt : Int)) (k : G E l X cs kc ks tgt lv rest) : G E l X cs kc ks pc lv rest := fun H locs ls hP hD hS hl => lv_goto hX.1 hX.2.1 hdg ht (k H locs ls hP hD hS hl)
theorem g_tableIn (hX : Cx E X cc own nL fr mc ms rl) {dflt lo hi : Int} {offs : Array Int} {len : Nat} {x : Int32} {off : Int} {tgt : Nat} (hdg : decode cc pc = .ok (.tableswitch dflt lo hi offs, len)) (h1 : ¬ x.toInt < lo) (h2 : ¬ hi < x.toInt) (ho : offs[(x.toInt - lo).toNat]? = some off) (ht : (pc : Int) + off = (tgt : Int)) (k : G E l X cs kc ks tgt lv rest) : G E l X cs kc ks pc lv (.int x :: rest) := fun H locs ls hP hD hS hl => lv_tableIn hX.1 hX.2.1 hdg h1 h2 ho ht (k H locs ls hP hD hS hl)
theorem g_tableOut (hX : Cx E X cc own nL fr mc ms rl) {dflt lo hi : Int} {offs : Array Int} {len : Nat} {x : Int32} {tgt : Nat} (hdg : decode cc pc = .ok (.tableswitch dflt lo hi offs, len)) (h : x.toInt < lo ∨ hi < x.toInt) (ht : (pc : Int) + dflt = (tgt : Int)) (k : G E l X cs kc ks tgt lv rest) : G E l X cs kc ks pc lv (.int x :: rest) := fun H locs ls hP hD hS hl => lv_tableOut hX.1 hX.2.1 hdg h ht (k H locs ls hP hD hS hl)
theorem g_ifnonnull (hX : Cx E X cc own nL fr mc ms rl) {x : Nat} {off : Int} {tgt : Nat} (hdg : decode cc pc = .ok (.ifnonnull off, 3)) (ht : (pc : Int) + off = (tgt : Int)) (k : G E l X cs kc ks tgt lv rest) : G E l X cs kc ks pc lv (.ref x :: rest) := fun H locs ls hP hD hS hl => lv_ifnonnull hX.1 hX.2.1 hdg ht (k H locs ls hP hD hS hl)
theorem g_ifnull (hX : Cx E X cc own nL fr mc ms rl) {x : Nat} {off : Int} (hdg : decode cc pc = .ok (.ifnull off, 3)) (k : G E l X cs kc ks (pc + 3) lv rest) : G E l X cs kc ks pc lv (.ref x :: rest) := fun H locs ls hP hD hS hl => lv_ifnull hX.1 hX.2.1 hdg (k H locs ls hP hD hS hl)
theorem g_null (hX : Cx E X cc own nL fr mc ms rl) (hdg : decode cc pc = .ok (.aconst_null, 1)) (k : G E l X cs kc ks (pc + 1) lv (.null :: rest)) : G E l X cs kc ks pc lv rest := fun H locs ls hP hD hS hl => lv_null hX.1 hX.2.1 hdg (k H locs ls hP hD hS hl)
theorem g_ifnullN (hX : Cx E X cc own nL fr mc ms rl) {off : Int} {tgt : Nat} (hdg : decode cc pc = .ok (.ifnull off, 3)) (ht : (pc : Int) + off = (tgt : Int)) (k : G E l X cs kc ks tgt lv rest) : G E l X cs kc ks pc lv (.null :: rest) := fun H locs ls hP hD hS hl => lv_ifnullN hX.1 hX.2.1 hdg ht (k H locs ls hP hD hS hl)
theorem g_ifnonnullN (hX : Cx E X cc own nL fr mc ms rl) {off : Int} (hdg : decode cc pc = .ok (.ifnonnull off, 3)) (k : G E l X cs kc ks (pc + 3) lv rest) : G E l X cs kc ks pc lv (.null :: rest) := fun H locs ls hP hD hS hl => lv_ifnonnullN hX.1 hX.2.1 hdg (k H locs ls hP hD hS hl)
theorem g_castN (hX : Cx E X cc own nL fr mc ms rl) {index : Nat} (hdg : decode cc pc = .ok (.checkcast index, 3)) (k : G E l X cs kc ks (pc + 3) lv (.null :: rest)) : G E l X cs kc ks pc lv (.null :: rest) := fun H locs ls hP hD hS hl => lv_castN hX.1 hX.2.1 hdg (k H locs ls hP hD hS hl)
theorem g_iload_n (hX : Cx E X cc own nL fr mc ms rl) {k : Fin 4} {x : Int32} (hdg : decode cc pc = .ok (.iload_n k, 1)) (q : Nat) (h : lv[q]? = some ((k : Nat), .int x)) (kk : G E l X cs kc ks (pc + 1) lv (.int x :: rest)) : G E l X cs kc ks pc lv rest := fun H locs ls hP hD hS hl => lv_iload_n hX.1 hX.2.1 hdg rfl (lv_at hl q h) (kk H locs ls hP hD hS hl)
theorem g_iload (hX : Cx E X cc own nL fr mc ms rl) {i : Nat} {x : Int32} (hdg : decode cc pc = .ok (.iload i, 2)) (q : Nat) (h : lv[q]? = some (i, .int x)) (kk : G E l X cs kc ks (pc + 2) lv (.int x :: rest)) : G E l X cs kc ks pc lv rest := fun H locs ls hP hD hS hl => lv_iload hX.1 hX.2.1 hdg (lv_at hl q h) (kk H locs ls hP hD hS hl)
theorem g_lload_n (hX : Cx E X cc own nL fr mc ms rl) {k : Fin 4} {x : Int64} (hdg : decode cc pc = .ok (.lload_n k, 1)) (q : Nat) (h : lv[q]? = some ((k : Nat), .long x)) (kk : G E l X cs kc ks (pc + 1) lv (.long x :: rest)) : G E l X cs kc ks pc lv rest := fun H locs ls hP hD hS hl => lv_lload_n hX.1 hX.2.1 hdg rfl (lv_at hl q h) (kk H locs ls hP hD hS hl)
theorem g_lload (hX : Cx E X cc own nL fr mc ms rl) {i : Nat} {x : Int64} (hdg : decode cc pc = .ok (.lload i, 2)) (q : Nat) (h : lv[q]? = some (i, .long x)) (kk : G E l X cs kc ks (pc + 2) lv (.long x :: rest)) : G E l X cs kc ks pc lv rest := fun H locs ls hP hD hS hl => lv_lload hX.1 hX.2.1 hdg (lv_at hl q h) (kk H locs ls hP hD hS hl)
theorem g_aload_n (hX : Cx E X cc own nL fr mc ms rl) {k : Fin 4} {x : Nat} (hdg : decode cc pc = .ok (.aload_n k, 1)) (q : Nat) (h : lv[q]? = some ((k : Nat), .ref x)) (kk : G E l X cs kc ks (pc + 1) lv (.ref x :: rest)) : G E l X cs kc ks pc lv rest := fun H locs ls hP hD hS hl => lv_aload_n hX.1 hX.2.1 hdg rfl (lv_at hl q h) (kk H locs ls hP hD hS hl)
theorem g_aload (hX : Cx E X cc own nL fr mc ms rl) {i : Nat} {x : Nat} (hdg : decode cc pc = .ok (.aload i, 2)) (q : Nat) (h : lv[q]? = some (i, .ref x)) (kk : G E l X cs kc ks (pc + 2) lv (.ref x :: rest)) : G E l X cs kc ks pc lv rest := fun H locs ls hP hD hS hl => lv_aload hX.1 hX.2.1 hdg (lv_at hl q h) (kk H locs ls hP hD hS hl)
theorem g_dload_n (hX : Cx E X cc own nL fr mc ms rl) {k : Fin 4} {x : UInt64} (hdg : decode cc pc = .ok (.dload_n k, 1)) (q : Nat) (h : lv[q]? = some ((k : Nat), .double x)) (kk : G E l X cs kc ks (pc + 1) lv (.double x :: rest)) : G E l X cs kc ks pc lv rest := fun H locs ls hP hD hS hl => lv_dload_n hX.1 hX.2.1 hdg rfl (lv_at hl q h) (kk H locs ls hP hD hS hl)
theorem g_dload (hX : Cx E X cc own nL fr mc ms rl) {i : Nat} {x : UInt64} (hdg : decode cc pc = .ok (.dload i, 2)) (q : Nat) (h : lv[q]? = some (i, .double x)) (kk : G E l X cs kc ks (pc + 2) lv (.double x :: rest)) : G E l X cs kc ks pc lv rest := fun H locs ls hP hD hS hl => lv_dload hX.1 hX.2.1 hdg (lv_at hl q h) (kk H locs ls hP hD hS hl)
theorem g_istore_n (hX : Cx E X cc own nL fr mc ms rl) {k : Fin 4} {x : Int32} {lv1 : List (Nat × Value)} (hdg : decode cc pc = .ok (.istore_n k, 1)) (hn : (k : Nat) < nL) (hl1 : ((k : Nat), Value.int x) :: lv.filter (fun q => !(q.1 == (k : Nat)) && !(q.1 + 1 == (k : Nat) && q.2.category == 2)) = lv1) (kk : G E l X cs kc ks (pc + 1) lv1 rest) : G E l X cs kc ks pc lv (.int x :: rest) := fun H locs ls hP hD hS hl => lv_istore_n hX.1 hX.2.1 hdg rfl hl (by rw [hX.2.2.2.1]; exact hn) hl1 (fun ls1 hl2 => kk H locs ls1 hP hD hS hl2)
theorem g_istore (hX : Cx E X cc own nL fr mc ms rl) {i : Nat} {x : Int32} {lv1 : List (Nat × Value)} (hdg : decode cc pc = .ok (.istore i, 2)) (hn : i < nL) (hl1 : (i, Value.int x) :: lv.filter (fun q => !(q.1 == i) && !(q.1 + 1 == i && q.2.category == 2)) = lv1) (kk : G E l X cs kc ks (pc + 2) lv1 rest) : G E l X cs kc ks pc lv (.int x :: rest) := fun H locs ls hP hD hS hl => lv_istore hX.1 hX.2.1 hdg hl (by rw [hX.2.2.2.1]; exact hn) hl1 (fun ls1 hl2 => kk H locs ls1 hP hD hS hl2)
theorem g_astore_n (hX : Cx E X cc own nL fr mc ms rl) {k : Fin 4} {x : Nat} {lv1 : List (Nat × Value)} (hdg : decode cc pc = .ok (.astore_n k, 1)) (hn : (k : Nat) < nL) (hl1 : ((k : Nat), Value.ref x) :: lv.filter (fun q => !(q.1 == (k : Nat)) && !(q.1 + 1 == (k : Nat) && q.2.category == 2)) = lv1) (kk : G E l X cs kc ks (pc + 1) lv1 rest) : G E l X cs kc ks pc lv (.ref x :: rest) := fun H locs ls hP hD hS hl => lv_astore_n hX.1 hX.2.1 hdg rfl hl (by rw [hX.2.2.2.1]; exact hn) hl1 (fun ls1 hl2 => kk H locs ls1 hP hD hS hl2)
theorem g_astore (hX : Cx E X cc own nL fr mc ms rl) {i : Nat} {x : Nat} {lv1 : List (Nat × Value)} (hdg : decode cc pc = .ok (.astore i, 2)) (hn : i < nL) (hl1 : (i, Value.ref x) :: lv.filter (fun q => !(q.1 == i) && !(q.1 + 1 == i && q.2.category == 2)) = lv1) (kk : G E l X cs kc ks (pc + 2) lv1 rest) : G E l X cs kc ks pc lv (.ref x :: rest) := fun H locs ls hP hD hS hl => lv_astore hX.1 hX.2.1 hdg hl (by rw [hX.2.2.2.1]; exact hn) hl1 (fun ls1 hl2 => kk H locs ls1 hP hD hS hl2)
theorem g_lstore_n (hX : Cx E X cc own nL fr mc ms rl) {k : Fin 4} {x : Int64} {lv1 : List (Nat × Value)} (hdg : decode cc pc = .ok (.lstore_n k, 1)) (hn : (k : Nat) + 1 < nL) (hl1 : ((k : Nat), Value.long x) :: lv.filter (fun q => !(q.1 == (k : Nat)) && (!(q.1 == (k : Nat) + 1) && !(q.1 + 1 == (k : Nat) && q.2.category == 2))) = lv1) (kk : G E l X cs kc ks (pc + 1) lv1 rest) : G E l X cs kc ks pc lv (.long x :: rest) := fun H locs ls hP hD hS hl => lv_lstore_n hX.1 hX.2.1 hdg rfl hl (by rw [hX.2.2.2.1]; exact hn) hl1 (fun ls1 hl2 => kk H locs ls1 hP hD hS hl2)
theorem g_lstore (hX : Cx E X cc own nL fr mc ms rl) {i : Nat} {x : Int64} {lv1 : List (Nat × Value)} (hdg : decode cc pc = .ok (.lstore i, 2)) (hn : i + 1 < nL) (hl1 : (i, Value.long x) :: lv.filter (fun q => !(q.1 == i) && (!(q.1 == i + 1) && !(q.1 + 1 == i && q.2.category == 2))) = lv1) (kk : G E l X cs kc ks (pc + 2) lv1 rest) : G E l X cs kc ks pc lv (.long x :: rest) := fun H locs ls hP hD hS hl => lv_lstore hX.1 hX.2.1 hdg hl (by rw [hX.2.2.2.1]; exact hn) hl1 (fun ls1 hl2 => kk H locs ls1 hP hD hS hl2)
theorem g_dstore_n (hX : Cx E X cc own nL fr mc ms rl) {k : Fin 4} {x : UInt64} {lv1 : List (Nat × Value)} (hdg : decode cc pc = .ok (.dstore_n k, 1)) (hn : (k : Nat) + 1 < nL) (hl1 : ((k : Nat), Value.double x) :: lv.filter (fun q => !(q.1 == (k : Nat)) && (!(q.1 == (k : Nat) + 1) && !(q.1 + 1 == (k : Nat) && q.2.category == 2))) = lv1) (kk : G E l X cs kc ks (pc + 1) lv1 rest) : G E l X cs kc ks pc lv (.double x :: rest) := fun H locs ls hP hD hS hl => lv_dstore_n hX.1 hX.2.1 hdg rfl hl (by rw [hX.2.2.2.1]; exact hn) hl1 (fun ls1 hl2 => kk H locs ls1 hP hD hS hl2)
theorem g_dstore (hX : Cx E X cc own nL fr mc ms rl) {i : Nat} {x : UInt64} {lv1 : List (Nat × Value)} (hdg : decode cc pc = .ok (.dstore i, 2)) (hn : i + 1 < nL) (hl1 : (i, Value.double x) :: lv.filter (fun q => !(q.1 == i) && (!(q.1 == i + 1) && !(q.1 + 1 == i && q.2.category == 2))) = lv1) (kk : G E l X cs kc ks (pc + 2) lv1 rest) : G E l X cs kc ks pc lv (.double x :: rest) := fun H locs ls hP hD hS hl => lv_dstore hX.1 hX.2.1 hdg hl (by rw [hX.2.2.2.1]; exact hn) hl1 (fun ls1 hl2 => kk H locs ls1 hP hD hS hl2)
theorem g_iinc (hX : Cx E X cc own nL fr mc ms rl) {i : Nat} {n : Int} {x v : Int32} {lv1 : List (Nat × Value)} (hdg : decode cc pc = .ok (.iinc i n, 3)) (q : Nat) (h : lv[q]? = some (i, .int x)) (hv : x + Int32.ofInt n = v) (hn : i < nL) (hl1 : (i, Value.int v) :: lv.filter (fun q => !(q.1 == i) && !(q.1 + 1 == i && q.2.category == 2)) = lv1) (kk : G E l X cs kc ks (pc + 3) lv1 rest) : G E l X cs kc ks pc lv rest := fun H locs ls hP hD hS hl => lv_iinc hX.1 hX.2.1 hdg hl h hv (by rw [hX.2.2.2.1]; exact hn) hl1 (fun ls1 hl2 => kk H locs ls1 hP hD hS hl2)
theorem g_lcmp (hX : Cx E X cc own nL fr mc ms rl) {x y : Int64} (hdg : decode cc pc = .ok (.lcmp, 1)) (k : G E l X cs kc ks (pc + 1) lv (.int (lg_cmp x y) :: rest)) : G E l X cs kc ks pc lv (.long y :: .long x :: rest) := fun H locs ls hP hD hS hl => W.lcmp hX.1 hX.2.1 hdg (k H locs ls hP hD hS hl)
theorem g_ldc2 (hX : Cx E X cc own nL fr mc ms rl) {index : Nat} {v : Int64} (hw : Cond.constantLong own index v ∈ lw_all) (hdg : decode cc pc = .ok (.ldc2_w index, 3)) (k : G E l X cs kc ks (pc + 3) lv (.long v :: rest)) : G E l X cs kc ks pc lv rest := fun H locs ls hP hD hS hl => lv_ldc2 hX.1 hX.2.1 hX.2.2.2.2.1 (hX.2.2.2.2.2.1 _ hw) hdg (k H locs ls hP hD hS hl)
theorem g_ldc (hX : Cx E X cc own nL fr mc ms rl) {index : Nat} {v : Int32} (hw : Cond.constant own index v ∈ lw_all) (hdg : decode cc pc = .ok (.ldc index, 2)) (k : G E l X cs kc ks (pc + 2) lv (.int v :: rest)) : G E l X cs kc ks pc lv rest := fun H locs ls hP hD hS hl => lv_ldc hX.1 hX.2.1 hX.2.2.2.2.1 (hX.2.2.2.2.2.1 _ hw) hdg (k H locs ls hP hD hS hl)
/-- the cells in another order -/
theorem g_perm {cs1 : List va_W} (hp : cs.flatten.Perm cs1.flatten) (k : G E l X cs1 kc ks pc lv st) : G E l X cs kc ks pc lv st := fun H locs ls hP hD hS hl => k H locs ls (sp_Pp hp hP) (sp_Dp hp hD) hS hl
theorem g_cs {cs1 : List va_W} (hp : cs = cs1) (k : G E l X cs1 kc ks pc lv st) : G E l X cs kc ks pc lv st := hp ▸ k
theorem g_pk {wc wr : List va_W} (is : List Nat) (hp : pk is cs = some (wc, wr)) (k : G E l X (wc ++ wr) kc ks pc lv st) : G E l X cs kc ks pc lv st := g_perm (pk_flat hp) k
theorem g_lv {lv1 : List (Nat × Value)} (is : List Nat) (hp : lv_pick lv is = lv1) (k : G E l X cs kc ks pc lv1 st) : G E l X cs kc ks pc lv st := fun H locs ls hP hD hS hl => k H locs ls hP hD hS (lv_sub hl is hp)
theorem g_st {st1 : List Value} (hp : st = st1) (k : G E l X cs kc ks pc lv st1) : G E l X cs kc ks pc lv st := hp ▸ k
theorem g_pc {pc1 : Nat} (hp : pc = pc1) (k : G E l X cs kc ks pc1 lv st) : G E l X cs kc ks pc lv st := hp ▸ k
theorem g_widen {kc1 ks1 : Nat} (h1 : kc ≤ kc1) (h2 : ks ≤ ks1) (k : G E l X cs kc1 ks1 pc lv st) : G E l X cs kc ks pc lv st := fun H locs ls hP hD hS hl => W.widen h1 h2 (k H locs ls hP hD hS hl)
/-- what the cells say may be used: two cells of one address cannot be in the list -/
theorem g_ne {x y : Nat × va_E} {i j : Nat} (hi : cs.flatten[i]? = some x) (hj : cs.flatten[j]? = some y) (hij : i ≠ j) (k : x.1 ≠ y.1 → G E l X cs kc ks pc lv st) : G E l X cs kc ks pc lv st := fun H locs ls hP hD hS hl => k (fun e => hij (hD.1 i j x y hi hj e)) H locs ls hP hD hS hl
/-- fields -/
theorem g_get (hX : Cx E X cc own nL fr mc ms rl) {ci : Nat} {C ref : String} {T : u_T} {N : Nat} {ty : Nat → FieldType} (hf : Fc ci C T N ty) (i : Nat) {fs : List Value} (hm : cs[i]? = some [(a, ob ci fs)]) (k : Nat) (hk : k < N) {index : Nat} (hw : Cond.fieldLink own index ref (T k).2.1 (T k).2.2.1 ∈ lw_all) (hsame : ref = (T k).1) {v : Value} (hv : fs[k]? = some v) (hdg : decode cc pc = .ok (.getfield index, 3))
    (kk : G E l X cs kc ks (pc + 3) lv (v :: rest)) : G E l X cs kc ks pc lv (.ref a :: rest) := fun H locs ls hP hD hS hl => by
  obtain ⟨q0, h0⟩ := List.mem_iff_getElem?.mp (sp_mem hm)
  exact va_get hX.1 hX.2.1 hX.2.2.2.2.2.1 hf.2.1 hX.2.2.2.2.1 hX.2.2.2.2.2.2.2.2.1 hP q0 h0 hf.1 k hk (hX.2.2.2.2.2.1 _ hw) (fun x hx => by rw [hsame]; exact hx) hv hdg (kk H locs ls hP hD hS hl)
theorem g_getm (hX : Cx E X cc own nL fr mc ms rl) {ci : Nat} {C ref : String} {T : u_T} {N : Nat} {ty : Nat → FieldType} (hf : Fc ci C T N ty) {fs : List Value} (hm : (a, ob ci fs) ∈ cs.flatten) (k : Nat) (hk : k < N) {index : Nat} (hw : Cond.fieldLink own index ref (T k).2.1 (T k).2.2.1 ∈ lw_all) (hsame : ref = (T k).1) {v : Value} (hv : fs[k]? = some v) (hdg : decode cc pc = .ok (.getfield index, 3))
    (kk : G E l X cs kc ks (pc + 3) lv (v :: rest)) : G E l X cs kc ks pc lv (.ref a :: rest) := fun H locs ls hP hD hS hl => by
  obtain ⟨q0, h0⟩ := List.mem_iff_getElem?.mp hm
  exact va_get hX.1 hX.2.1 hX.2.2.2.2.2.1 hf.2.1 hX.2.2.2.2.1 hX.2.2.2.2.2.2.2.2.1 hP q0 h0 hf.1 k hk (hX.2.2.2.2.2.1 _ hw) (fun x hx => by rw [hsame]; exact hx) hv hdg (kk H locs ls hP hD hS hl)
theorem cx_nst {E : EE} {X : Fx} {cc : ByteArray} {own : String} {nL fr mc ms rl : Nat} (hX : Cx E X cc own nL fr mc ms rl) {w : Cond} (h : w ∈ lw_tbl) (g : xw_is w = true) : va_Nw w (xs X) := hX.2.2.2.2.2.2.2.2.2.1.1.1 _ (xw_in h g)
theorem g_getN (hX : Cx E X cc own nL fr mc ms rl) {ci : Nat} {C ref host : String} {T : u_T} {N : Nat} {ty : Nat → FieldType} (hf : Fc ci C T N ty) (i : Nat) {fs : List Value} (hm : cs[i]? = some [(a, ob ci fs)]) (k : Nat) (hk : k < N) {index : Nat} (hw : Cond.fieldLinkNest own index ref (T k).2.1 (T k).2.2.1 host ∈ lw_tbl) (hsame : ref = (T k).1) {v : Value} (hv : fs[k]? = some v) (hdg : decode cc pc = .ok (.getfield index, 3))
    (kk : G E l X cs kc ks (pc + 3) lv (v :: rest)) : G E l X cs kc ks pc lv (.ref a :: rest) := fun H locs ls hP hD hS hl => by
  obtain ⟨q0, h0⟩ := List.mem_iff_getElem?.mp (sp_mem hm)
  exact va_getN hX.1 hX.2.1 hX.2.2.2.2.2.1 hf.2.1 hX.2.2.2.2.1 hX.2.2.2.2.2.2.2.2.1 hP q0 h0 hf.1 k hk (va_Nw.use rfl (cx_nst hX hw rfl)) (fun x hx => by rw [hsame]; exact hx) hv hdg (kk H locs ls hP hD hS hl)
theorem g_getNm (hX : Cx E X cc own nL fr mc ms rl) {ci : Nat} {C ref host : String} {T : u_T} {N : Nat} {ty : Nat → FieldType} (hf : Fc ci C T N ty) {fs : List Value} (hm : (a, ob ci fs) ∈ cs.flatten) (k : Nat) (hk : k < N) {index : Nat} (hw : Cond.fieldLinkNest own index ref (T k).2.1 (T k).2.2.1 host ∈ lw_tbl) (hsame : ref = (T k).1) {v : Value} (hv : fs[k]? = some v) (hdg : decode cc pc = .ok (.getfield index, 3))
    (kk : G E l X cs kc ks (pc + 3) lv (v :: rest)) : G E l X cs kc ks pc lv (.ref a :: rest) := fun H locs ls hP hD hS hl => by
  obtain ⟨q0, h0⟩ := List.mem_iff_getElem?.mp hm
  exact va_getN hX.1 hX.2.1 hX.2.2.2.2.2.1 hf.2.1 hX.2.2.2.2.1 hX.2.2.2.2.2.2.2.2.1 hP q0 h0 hf.1 k hk (va_Nw.use rfl (cx_nst hX hw rfl)) (fun x hx => by rw [hsame]; exact hx) hv hdg (kk H locs ls hP hD hS hl)
theorem g_put (hX : Cx E X cc own nL fr mc ms rl) {ci : Nat} {C ref : String} {T : u_T} {N : Nat} {ty : Nat → FieldType} (hf : Fc ci C T N ty) (i : Nat) {fs fs1 : List Value} {cs1 : List va_W} (hm : cs[i]? = some [(a, ob ci fs)]) (k : Nat) (hk : k < N) {index : Nat} (hw : Cond.fieldLink own index ref (T k).2.1 (T k).2.2.1 ∈ lw_all) (hsame : ref = (T k).1) (hfin : (T k).2.2.2 = false) {v : Value} (hn : narrow (ty k) v = v) (hfit : fits (ty k) v = true) (hl : k < fs.length) (hfs : fs.set k v = fs1) (hcs : cs.set i [(a, ob ci fs1)] = cs1) (hdg : decode cc pc = .ok (.putfield index, 3))
    (kk : G E l X cs1 kc ks (pc + 3) lv rest) : G E l X cs kc ks pc lv (v :: .ref a :: rest) := fun H locs ls hP hD hS hl2 => by
  obtain ⟨q0, h0, h1⟩ := sp_set cs i _ hm
  subst hcs; subst hfs
  refine va_put hX.1 hX.2.1 hX.2.2.2.2.2.1 hf.2.1 ty hf.2.2.1 hf.2.2.2 hX.2.2.2.2.1 hX.2.2.2.2.2.2.2.2.1 hP hD hS q0 h0 hf.1 k hk (hX.2.2.2.2.2.1 _ hw) (fun x hx => by rw [hsame]; exact hx) hfin (hf.2.2.1 k hk) hn hfit hl hdg (fun H1 locs1 hP1 hD1 hS1 => ?_)
  rw [h1] at hP1 hD1
  exact kk H1 locs1 ls hP1 hD1 hS1 hl2
theorem g_putN (hX : Cx E X cc own nL fr mc ms rl) {ci : Nat} {C ref host : String} {T : u_T} {N : Nat} {ty : Nat → FieldType} (hf : Fc ci C T N ty) (i : Nat) {fs fs1 : List Value} {cs1 : List va_W} (hm : cs[i]? = some [(a, ob ci fs)]) (k : Nat) (hk : k < N) {index : Nat} (hw : Cond.fieldLinkNest own index ref (T k).2.1 (T k).2.2.1 host ∈ lw_tbl) (hsame : ref = (T k).1) (hfin : (T k).2.2.2 = false) {v : Value} (hn : narrow (ty k) v = v) (hfit : fits (ty k) v = true) (hl : k < fs.length) (hfs : fs.set k v = fs1) (hcs : cs.set i [(a, ob ci fs1)] = cs1) (hdg : decode cc pc = .ok (.putfield index, 3))
    (kk : G E l X cs1 kc ks (pc + 3) lv rest) : G E l X cs kc ks pc lv (v :: .ref a :: rest) := fun H locs ls hP hD hS hl2 => by
  obtain ⟨q0, h0, h1⟩ := sp_set cs i _ hm
  subst hcs; subst hfs
  refine va_putN hX.1 hX.2.1 hX.2.2.2.2.2.1 hf.2.1 ty hf.2.2.1 hf.2.2.2 hX.2.2.2.2.1 hX.2.2.2.2.2.2.2.2.1 hP hD hS q0 h0 hf.1 k hk (va_Nw.use rfl (cx_nst hX hw rfl)) (fun x hx => by rw [hsame]; exact hx) hfin (hf.2.2.1 k hk) hn hfit hl hdg (fun H1 locs1 hP1 hD1 hS1 => ?_)
  rw [h1] at hP1 hD1
  exact kk H1 locs1 ls hP1 hD1 hS1 hl2
theorem g_putF (hX : Cx E X cc own nL fr mc ms rl) {ci : Nat} {C ref : String} {T : u_T} {N : Nat} {ty : Nat → FieldType} (hf : Fc ci C T N ty) (i : Nat) {fs fs1 : List Value} {cs1 : List va_W} (hm : cs[i]? = some [(a, ob ci fs)]) (k : Nat) (hk : k < N) {index : Nat} (hw : Cond.fieldLink own index ref (T k).2.1 (T k).2.2.1 ∈ lw_all) (hsame : ref = (T k).1) (hfin : (T k).2.2.2 = true) (hin : (xM X).name = "<init>") (hdecl : (T k).1 = own) {v : Value} (hn : narrow (ty k) v = v) (hfit : fits (ty k) v = true) (hl : k < fs.length) (hfs : fs.set k v = fs1) (hcs : cs.set i [(a, ob ci fs1)] = cs1) (hdg : decode cc pc = .ok (.putfield index, 3))
    (kk : G E l X cs1 kc ks (pc + 3) lv rest) : G E l X cs kc ks pc lv (v :: .ref a :: rest) := fun H locs ls hP hD hS hl2 => by
  obtain ⟨q0, h0, h1⟩ := sp_set cs i _ hm
  subst hcs; subst hfs
  refine va_putF hX.1 hX.2.1 hX.2.2.2.2.2.1 hf.2.1 ty hf.2.2.1 hf.2.2.2 hX.2.2.2.2.1 hX.2.2.2.2.2.2.2.2.1 hP hD hS q0 h0 hf.1 k hk (hX.2.2.2.2.2.1 _ hw) (fun x hx => by rw [hsame]; exact hx) hfin hin hdecl (hf.2.2.1 k hk) hn hfit hl hdg (fun H1 locs1 hP1 hD1 hS1 => ?_)
  rw [h1] at hP1 hD1
  exact kk H1 locs1 ls hP1 hD1 hS1 hl2
/-- statics -/
theorem g_gets (hX : Cx E X cc own nL fr mc ms rl) {C n d ref : String} {v : Value} {index : Nat} (hZ : va_Z C n d v (xA X) (xs X) (xs X).heap) (hw : Cond.fieldLink own index ref n d ∈ lw_all) (hsame : ref = C) (hdg : decode cc pc = .ok (.getstatic index, 3)) (kk : G E l X cs kc ks (pc + 3) lv (v :: rest)) : G E l X cs kc ks pc lv rest := fun H locs ls hP hD hS hl =>
  va_gets hX.1 hX.2.1 hZ hS hX.2.2.2.2.1 (hX.2.2.2.2.2.1 _ hw) (fun x hx => by rw [hsame]; exact hx) hdg (kk H locs ls hP hD hS hl)
theorem g_getsN (hX : Cx E X cc own nL fr mc ms rl) {C n d ref host : String} {v : Value} {index : Nat} (hZ : va_Z C n d v (xA X) (xs X) (xs X).heap) (hw : Cond.fieldLinkNest own index ref n d host ∈ lw_tbl) (hsame : ref = C) (hdg : decode cc pc = .ok (.getstatic index, 3)) (kk : G E l X cs kc ks (pc + 3) lv (v :: rest)) : G E l X cs kc ks pc lv rest := fun H locs ls hP hD hS hl =>
  va_getsN hX.1 hX.2.1 hZ hS hX.2.2.2.2.1 (va_Nw.use rfl (cx_nst hX hw rfl)) (fun x hx => by rw [hsame]; exact hx) hdg (kk H locs ls hP hD hS hl)
/-- making: the new cell stands in front -/
theorem sp_front {cs : List va_W} {x : Nat × va_E} : (cs.flatten ++ [x]).Perm ([x] :: cs).flatten := by
  rw [List.flatten_cons]
  exact List.perm_append_comm
theorem g_new (hX : Cx E X cc own nL fr mc ms rl) {ci : Nat} {C : String} {T : u_T} {N : Nat} {ty : Nat → FieldType} (hf : Fc ci C T N ty) {index : Nat} (hw1 : Cond.classLink own index C ∈ lw_all) (hw2 : Cond.instantiable C N ∈ lw_all) (hw3 : Cond.initialized C ∈ lw_all) {fs : List Value} (hfs : ∀ j, j < N → defaultValue (ty j) = vp_V fs j) (h1 : kc + 1 ≤ mc) (h2 : ks + N ≤ ms) (hdg : decode cc pc = .ok (.new index, 3))
    (kk : ∀ q : Nat, G E l X ([(q, ob ci fs)] :: cs) (kc + 1) (ks + N) (pc + 3) lv (.ref q :: rest)) : G E l X cs kc ks pc lv rest := fun H locs ls hP hD hS hl => by
  have hR := hX.2.2.2.2.2.2.2.1
  refine va_new hX.1 hX.2.1 hX.2.2.2.2.2.1 hf.2.1 ty hf.2.2.1 hX.2.2.2.2.1 (hX.2.2.2.2.2.1 _ hw1) (hX.2.2.2.2.2.1 _ hw2) (hX.2.2.2.2.2.1 _ hw3) hX.2.2.2.2.2.2.2.2.1 hP hD hS hX.2.2.2.2.2.2.2.2.2.2 hf.1 hfs (by rw [hR]; exact h1) (by rw [hR]; exact h2) hdg (fun q H1 hP1 hD1 hS1 => ?_)
  exact kk q H1 locs ls (sp_Pp sp_front hP1) (sp_Dp sp_front hD1) hS1 hl
theorem ty_arr {E : EE} {s : State} {tys : List (ClassId × FieldType)} {k : Nat} {t : FieldType} {cA : ClassId} (hK : va_K E.1 Cl (TY E) s) (h0 : (TY E)[k]? = some (aC E k, t)) (hK1 : va_K E.1 Cl (TY E ++ [(cA, t)]) s) : cA = aC E k := by
  have a1 := (hK.2 k _ h0).2
  have a2 := (hK1.2 (TY E).length (cA, t) (by rw [List.getElem?_append_right (Nat.le_refl _), Nat.sub_self]; rfl)).2
  cases t with
  | object C =>
    obtain ⟨-, -, -, -, -, f1⟩ := a1
    obtain ⟨-, -, -, -, -, f2⟩ := a2
    exact Option.some.inj (f2.symm.trans f1)
  | _ => exact Option.some.inj (Eq.trans (Eq.symm a2) a1)
theorem g_newi (hX : Cx E X cc own nL fr mc ms rl) (hw : Cond.arrayClass .int ∈ lw_all) {n : Int32} (N : Nat) (hn : ¬ n < 0) (hN : n.toNatClampNeg = N) (hb : N * 4 ≤ 536870912) (h1 : kc + 1 ≤ mc) (h2 : ks + N ≤ ms) (hdg : decode cc pc = .ok (.newarray .int, 2))
    (kk : ∀ q : Nat, G E l X ([(q, iA (aC E 0) N (fun _ => 0))] :: cs) (kc + 1) (ks + N) (pc + 2) lv (.ref q :: rest)) : G E l X cs kc ks pc lv (.int n :: rest) := fun H locs ls hP hD hS hl => by
  have hR := hX.2.2.2.2.2.2.2.1
  refine va_newa (atype := .int) hX.1 hX.2.1 (hX.2.2.2.2.2.1 _ hw) (ty := .int) rfl hX.2.2.2.2.2.2.2.2.1 hP hD hS hX.2.2.2.2.2.2.2.2.2.2 (N' := N) (a0 := (N, .inl (fun _ => 0))) (fun cA => rfl) hn hN (by show N * 4 ≤ _; exact hb) (by rw [hR]; exact h1) (by rw [hR]; exact h2) hdg (fun q cA H1 hK1 hP1 hD1 hS1 => ?_)
  obtain rfl : cA = aC E 0 := ty_arr (tys := TY E) hX.2.2.2.2.2.2.2.2.1 rfl hK1
  exact kk q H1 locs ls (sp_Pp sp_front hP1) (sp_Dp sp_front hD1) hS1 hl
theorem g_newl (hX : Cx E X cc own nL fr mc ms rl) (hw : Cond.arrayClass .long ∈ lw_all) {n : Int32} (N : Nat) (hn : ¬ n < 0) (hN : n.toNatClampNeg = N) (hb : N * 8 ≤ 536870912) (h1 : kc + 1 ≤ mc) (h2 : ks + N ≤ ms) (hdg : decode cc pc = .ok (.newarray .long, 2))
    (kk : ∀ q : Nat, G E l X ([(q, lA (aC E 1) N (fun _ => 0))] :: cs) (kc + 1) (ks + N) (pc + 2) lv (.ref q :: rest)) : G E l X cs kc ks pc lv (.int n :: rest) := fun H locs ls hP hD hS hl => by
  have hR := hX.2.2.2.2.2.2.2.1
  refine va_newa (atype := .long) hX.1 hX.2.1 (hX.2.2.2.2.2.1 _ hw) (ty := .long) rfl hX.2.2.2.2.2.2.2.2.1 hP hD hS hX.2.2.2.2.2.2.2.2.2.2 (N' := N) (a0 := (N, .inr (.inl (fun _ => 0)))) (fun cA => rfl) hn hN (by show N * 8 ≤ _; exact hb) (by rw [hR]; exact h1) (by rw [hR]; exact h2) hdg (fun q cA H1 hK1 hP1 hD1 hS1 => ?_)
  obtain rfl : cA = aC E 1 := ty_arr (tys := TY E) hX.2.2.2.2.2.2.2.2.1 rfl hK1
  exact kk q H1 locs ls (sp_Pp sp_front hP1) (sp_Dp sp_front hD1) hS1 hl
theorem g_newq (hX : Cx E X cc own nL fr mc ms rl) {t0 : Nat} {C : String} {index : Nat} (ht : (TY E)[t0]? = some (aC E t0, .object C)) (hw : Cond.classLink own index C ∈ lw_all) (hAO : va_AO C (xs X)) {n : Int32} (N : Nat) (hn : ¬ n < 0) (hN : n.toNatClampNeg = N) (hb : N * 4 ≤ 536870912) (h1 : kc + 1 ≤ mc) (h2 : ks + N ≤ ms) (hdg : decode cc pc = .ok (.anewarray index, 3))
    (kk : ∀ q : Nat, G E l X ([(q, qA (aC E t0) N (fun _ => none))] :: cs) (kc + 1) (ks + N) (pc + 3) lv (.ref q :: rest)) : G E l X cs kc ks pc lv (.int n :: rest) := fun H locs ls hP hD hS hl => by
  have hR := hX.2.2.2.2.2.2.2.1
  refine va_newq hX.1 hX.2.1 hX.2.2.2.2.1 (hX.2.2.2.2.2.1 _ hw) hAO hX.2.2.2.2.2.2.2.2.1 hP hD hS hX.2.2.2.2.2.2.2.2.2.2 hn hN hb (by rw [hR]; exact h1) (by rw [hR]; exact h2) hdg (fun q cA H1 hK1 hP1 hD1 hS1 => ?_)
  obtain rfl : cA = aC E t0 := ty_arr (tys := TY E) hX.2.2.2.2.2.2.2.2.1 ht hK1
  exact kk q H1 locs ls (sp_Pp sp_front hP1) (sp_Dp sp_front hD1) hS1 hl
/-- arrays -/
theorem g_alen (hX : Cx E X cc own nL fr mc ms rl) {cA : ClassId} {x : vp_A} (hm : (a, (.inl (cA, x) : va_E)) ∈ cs.flatten) {ty : FieldType} (t0 : Nat) (ht : (TY E)[t0]? = some (cA, ty)) {v : Int32} (hv : Int32.ofNat x.1 = v) (hdg : decode cc pc = .ok (.arraylength, 1))
    (kk : G E l X cs kc ks (pc + 1) lv (.int v :: rest)) : G E l X cs kc ks pc lv (.ref a :: rest) := fun H locs ls hP hD hS hl => by
  obtain ⟨q0, h0⟩ := List.mem_iff_getElem?.mp hm
  exact va_alen hX.1 hX.2.1 hX.2.2.2.2.2.2.2.2.1 hP q0 t0 h0 ht hv hdg (kk H locs ls hP hD hS hl)
theorem g_iald (hX : Cx E X cc own nL fr mc ms rl) {n : Nat} {f : Nat → Int32} (hm : (a, iA (aC E 0) n f) ∈ cs.flatten) {i v : Int32} (hin : vp_in i n) (hv : f i.toNatClampNeg = v) (hdg : decode cc pc = .ok (.iaload, 1))
    (kk : G E l X cs kc ks (pc + 1) lv (.int v :: rest)) : G E l X cs kc ks pc lv (.int i :: .ref a :: rest) := fun H locs ls hP hD hS hl => by
  obtain ⟨q0, h0⟩ := List.mem_iff_getElem?.mp hm
  subst hv
  exact va_iald hX.1 hX.2.1 hX.2.2.2.2.2.2.2.2.1 hP q0 0 h0 rfl hin hdg (kk H locs ls hP hD hS hl)
theorem g_lald (hX : Cx E X cc own nL fr mc ms rl) {n : Nat} {f : Nat → Int64} (hm : (a, lA (aC E 1) n f) ∈ cs.flatten) {i : Int32} {v : Int64} (hin : vp_in i n) (hv : f i.toNatClampNeg = v) (hdg : decode cc pc = .ok (.laload, 1))
    (kk : G E l X cs kc ks (pc + 1) lv (.long v :: rest)) : G E l X cs kc ks pc lv (.int i :: .ref a :: rest) := fun H locs ls hP hD hS hl => by
  obtain ⟨q0, h0⟩ := List.mem_iff_getElem?.mp hm
  subst hv
  exact va_lald hX.1 hX.2.1 hX.2.2.2.2.2.2.2.2.1 hP q0 1 h0 rfl hin hdg (kk H locs ls hP hD hS hl)
theorem g_aald (hX : Cx E X cc own nL fr mc ms rl) {n t0 : Nat} {C : String} {f : Nat → Option Nat} (ht : (TY E)[t0]? = some (aC E t0, .object C)) (hm : (a, qA (aC E t0) n f) ∈ cs.flatten) {i : Int32} {y : Nat} (hin : vp_in i n) (hv : f i.toNatClampNeg = some y) (hdg : decode cc pc = .ok (.aaload, 1))
    (kk : G E l X cs kc ks (pc + 1) lv (.ref y :: rest)) : G E l X cs kc ks pc lv (.int i :: .ref a :: rest) := fun H locs ls hP hD hS hl => by
  obtain ⟨q0, h0⟩ := List.mem_iff_getElem?.mp hm
  refine va_aldq hX.1 hX.2.1 hX.2.2.2.2.2.2.2.2.1 hP q0 t0 h0 ht hin hdg ?_
  rw [hv]
  exact kk H locs ls hP hD hS hl
theorem g_iast (hX : Cx E X cc own nL fr mc ms rl) {n : Nat} {f f1 : Nat → Int32} {cs1 : List va_W} (i : Nat) (hm : cs[i]? = some [(a, iA (aC E 0) n f)]) {j x : Int32} (hin : vp_in j n) (hf : upd f j.toNatClampNeg x = f1) (hcs : cs.set i [(a, iA (aC E 0) n f1)] = cs1) (hdg : decode cc pc = .ok (.iastore, 1))
    (kk : G E l X cs1 kc ks (pc + 1) lv rest) : G E l X cs kc ks pc lv (.int x :: .int j :: .ref a :: rest) := fun H locs ls hP hD hS hl => by
  obtain ⟨q0, h0, h1⟩ := sp_set cs i _ hm
  subst hcs; subst hf
  refine va_iast hX.1 hX.2.1 hX.2.2.2.2.2.2.2.2.1 hP hD hS q0 0 h0 rfl hin hdg (fun H1 locs1 hP1 hD1 hS1 => ?_)
  rw [h1] at hP1 hD1
  exact kk H1 locs1 ls hP1 hD1 hS1 hl
theorem g_last (hX : Cx E X cc own nL fr mc ms rl) {n : Nat} {f f1 : Nat → Int64} {cs1 : List va_W} (i : Nat) (hm : cs[i]? = some [(a, lA (aC E 1) n f)]) {j : Int32} {x : Int64} (hin : vp_in j n) (hf : vp_updL f j.toNatClampNeg x = f1) (hcs : cs.set i [(a, lA (aC E 1) n f1)] = cs1) (hdg : decode cc pc = .ok (.lastore, 1))
    (kk : G E l X cs1 kc ks (pc + 1) lv rest) : G E l X cs kc ks pc lv (.long x :: .int j :: .ref a :: rest) := fun H locs ls hP hD hS hl => by
  obtain ⟨q0, h0, h1⟩ := sp_set cs i _ hm
  subst hcs; subst hf
  refine va_last hX.1 hX.2.1 hX.2.2.2.2.2.2.2.2.1 hP hD hS q0 1 h0 rfl hin hdg (fun H1 locs1 hP1 hD1 hS1 => ?_)
  rw [h1] at hP1 hD1
  exact kk H1 locs1 ls hP1 hD1 hS1 hl
theorem g_aastN (hX : Cx E X cc own nL fr mc ms rl) {n t0 : Nat} {C : String} {f f1 : Nat → Option Nat} {cs1 : List va_W} (ht : (TY E)[t0]? = some (aC E t0, .object C)) (i : Nat) (hm : cs[i]? = some [(a, qA (aC E t0) n f)]) {j : Int32} (hin : vp_in j n) (hf : va_up f j.toNatClampNeg none = f1) (hcs : cs.set i [(a, qA (aC E t0) n f1)] = cs1) (hdg : decode cc pc = .ok (.aastore, 1))
    (kk : G E l X cs1 kc ks (pc + 1) lv rest) : G E l X cs kc ks pc lv (.null :: .int j :: .ref a :: rest) := fun H locs ls hP hD hS hl => by
  obtain ⟨q0, h0, h1⟩ := sp_set cs i _ hm
  subst hcs; subst hf
  refine va_astqN hX.1 hX.2.1 hX.2.2.2.2.2.2.2.2.1 hP hD hS q0 t0 h0 ht hin hdg (fun H1 locs1 hP1 hD1 hS1 => ?_)
  rw [h1] at hP1 hD1
  exact kk H1 locs1 ls hP1 hD1 hS1 hl
/-- a reference of any object into an array of its class's own kind or Object's -/
theorem g_aast (hX : Cx E X cc own nL fr mc ms rl) {n t0 : Nat} {C : String} {f f1 : Nat → Option Nat} {cs1 : List va_W} {v : Nat} (ht : (TY E)[t0]? = some (aC E t0, .object C)) (i : Nat) (hm : cs[i]? = some [(a, qA (aC E t0) n f)]) (hv : ∀ (H : Heap) (locs : List Loc), va_P E.1 Cl cs.flatten H → va_S (xA X) (xs X).heap H locs → va_Any C (xs X) H v) {j : Int32} (hin : vp_in j n) (hf : va_up f j.toNatClampNeg (some v) = f1) (hcs : cs.set i [(a, qA (aC E t0) n f1)] = cs1) (hdg : decode cc pc = .ok (.aastore, 1))
    (kk : G E l X cs1 kc ks (pc + 1) lv rest) : G E l X cs kc ks pc lv (.ref v :: .int j :: .ref a :: rest) := fun H locs ls hP hD hS hl => by
  obtain ⟨q0, h0, h1⟩ := sp_set cs i _ hm
  subst hcs; subst hf
  refine va_astqM hX.1 hX.2.1 hX.2.2.2.2.2.2.2.2.1 hP hD hS q0 t0 h0 ht (hv H locs hP hS) hin hdg (fun H1 locs1 hP1 hD1 hS1 => ?_)
  rw [h1] at hP1 hD1
  exact kk H1 locs1 ls hP1 hD1 hS1 hl
theorem g_cast (hX : Cx E X cc own nL fr mc ms rl) {ci : Nat} {C : String} {T : u_T} {N : Nat} {ty : Nat → FieldType} (hf : Fc ci C T N ty) {fs : List Value} (hm : (a, ob ci fs) ∈ cs.flatten) {index : Nat} (hw : Cond.classLink own index C ∈ lw_all) (hdg : decode cc pc = .ok (.checkcast index, 3))
    (kk : G E l X cs kc ks (pc + 3) lv (.ref a :: rest)) : G E l X cs kc ks pc lv (.ref a :: rest) := fun H locs ls hP hD hS hl => by
  obtain ⟨q0, h0⟩ := List.mem_iff_getElem?.mp hm
  exact va_castS hX.1 hX.2.1 hX.2.2.2.2.1 (hX.2.2.2.2.2.1 _ hw) (hX.2.2.2.2.2.2.2.2.1.1 ci _ hf.1).2 (va_recv hX.2.2.2.2.2.2.2.2.1 hP hf.1 h0) hdg (kk H locs ls hP hD hS hl)
/-! entry, returns -/
theorem Mt.of {E : EE} {l : Launch} {y : MethodName} {code : ByteArray} {nL : Nat} {ret : Option FieldType} {fr mc ms rl : Nat} {av : List Value} {cs : List va_W} {post : Option Value → List va_W → Prop}
    (hy : plainName y.cls = true) (hargs : (lg_sl av).length ≤ nL) (body : ∀ X : Fx, Cx E X code y.cls nL fr mc ms rl → Rt E X ret post mc ms → (xM X).name = y.name → G E l X cs 0 0 0 (lv_args 0 av) []) :
    Mt E l y code nL ret fr mc ms rl av cs post := by
  intro sz
  refine Met.ofW (cc := code) (maxL := nL) (ret := ret) hy rfl ?_
  intro p e s m args below meth c s₁ B hml hv
  obtain ⟨rfl, hsz, hP, hK, hD, hG⟩ := hv
  subst hsz
  have hts := atoms_spec (ws := ws_ y code nL ret) B.pre
  have hl := lv_entry av (n := nL) hargs
  rw [lg_entry_eq]
  exact body (p, e, ({ frames := fr, cells := mc, slots := ms, locals := rl } : Room), s, m, av.toArray, below, meth, c, va_A cs.flatten s.heap.size, nL, MQ below (Qx E post (va_A cs.flatten s.heap.size)) av.toArray s mc ms (va_A cs.flatten s.heap.size))
    ⟨B.exec, B.bytes, hml, rfl, findClass_of_methodNamed B.named, fun w h => hts w (List.mem_cons_of_mem _ h), B.notSynchronized, rfl, hK, hG, fun q h => Or.inr h⟩ ⟨rfl, B.returns⟩ (name_of_methodNamed B.named B.method).1 s.heap [] _ hP hD va_S.rf hl
theorem g_iret (hX : Cx E X cc own nL fr mc ms rl) (hR : Rt E X (some .int) post mc ms) {v : Int32} (hp : post (some (.int v)) cs) (h1 : kc ≤ mc) (h2 : ks ≤ ms) (hdg : decode cc pc = .ok (.ireturn, 1)) : G E l X cs kc ks pc lv [.int v] := fun H locs ls hP hD hS hl => by
  rw [hR.1]
  exact W.widen h1 h2 (W.iret hX.1 hX.2.1 hR.2 (fun t ht hW => ⟨⟨_, cs, rfl, hp, by rw [ht]; exact hP, hD⟩, hS.F ht⟩) hS.2.2 hdg hX.2.2.2.2.2.2.1)
theorem g_zret (hX : Cx E X cc own nL fr mc ms rl) {ty : FieldType} (hR : Rt E X (some ty) post mc ms) {v : Int32} (hn : narrow ty (.int v) = .int v) (hp : post (some (.int v)) cs) (h1 : kc ≤ mc) (h2 : ks ≤ ms) (hdg : decode cc pc = .ok (.ireturn, 1)) : G E l X cs kc ks pc lv [.int v] := fun H locs ls hP hD hS hl => by
  rw [hR.1]
  exact W.widen h1 h2 (W.zret hX.1 hX.2.1 hR.2 hn (fun t ht hW => ⟨⟨_, cs, rfl, hp, by rw [ht]; exact hP, hD⟩, hS.F ht⟩) hS.2.2 hdg hX.2.2.2.2.2.2.1)
theorem g_lret (hX : Cx E X cc own nL fr mc ms rl) (hR : Rt E X (some .long) post mc ms) {v : Int64} (hp : post (some (.long v)) cs) (h1 : kc ≤ mc) (h2 : ks ≤ ms) (hdg : decode cc pc = .ok (.lreturn, 1)) : G E l X cs kc ks pc lv [.long v] := fun H locs ls hP hD hS hl => by
  rw [hR.1]
  exact W.widen h1 h2 (W.lret hX.1 hX.2.1 hR.2 (fun t ht hW => ⟨⟨_, cs, rfl, hp, by rw [ht]; exact hP, hD⟩, hS.F ht⟩) hS.2.2 hdg hX.2.2.2.2.2.2.1)
theorem g_dret (hX : Cx E X cc own nL fr mc ms rl) (hR : Rt E X (some .double) post mc ms) {v : UInt64} (hp : post (some (.double v)) cs) (h1 : kc ≤ mc) (h2 : ks ≤ ms) (hdg : decode cc pc = .ok (.dreturn, 1)) : G E l X cs kc ks pc lv [.double v] := fun H locs ls hP hD hS hl => by
  rw [hR.1]
  have hlk := hX.2.2.2.2.2.2.1
  exact W.widen h1 h2 (W.dret hX.1 hX.2.1 hR.2 (fun t ht hW => ⟨⟨_, cs, rfl, hp, by rw [ht]; exact hP, hD⟩, hS.F ht⟩) hS.2.2 hdg hlk)
theorem g_aret (hX : Cx E X cc own nL fr mc ms rl) {rt : FieldType} (hR : Rt E X (some rt) post mc ms) (hrt : (∃ n, rt = .object n) ∨ ∃ t, rt = .array t) {v : Nat} (hp : post (some (.ref v)) cs) (h1 : kc ≤ mc) (h2 : ks ≤ ms) (hdg : decode cc pc = .ok (.areturn, 1)) : G E l X cs kc ks pc lv [.ref v] := fun H locs ls hP hD hS hl => by
  rw [hR.1]
  exact W.widen h1 h2 (W.aret hX.1 hX.2.1 hR.2 hrt (Or.inr ⟨v, rfl⟩) (fun t ht hW => ⟨⟨_, cs, rfl, hp, by rw [ht]; exact hP, hD⟩, hS.F ht⟩) hS.2.2 hdg hX.2.2.2.2.2.2.1)
theorem g_vret (hX : Cx E X cc own nL fr mc ms rl) (hR : Rt E X none post mc ms) (hp : post none cs) (h1 : kc ≤ mc) (h2 : ks ≤ ms) (hdg : decode cc pc = .ok (.return_, 1)) : G E l X cs kc ks pc lv [] := fun H locs ls hP hD hS hl => by
  rw [hR.1]
  exact W.widen h1 h2 (W.vret hX.1 hX.2.1 hR.2 (fun t ht hW => ⟨⟨_, cs, rfl, hp, by rw [ht]; exact hP, hD⟩, hS.F ht⟩) hS.2.2 hdg hX.2.2.2.2.2.2.1)
theorem g_objInit (hX : Cx E X cc own nL fr mc ms rl) {a index : Nat} (hw : Cond.methodLink own index Lib.objectInit ∈ lw_all) (hi : Cond.instanceMethod Lib.objectInit ∈ lw_all) (hc : Cond.code Lib.objectInit ⟨#[0xb1]⟩ 1 none ∈ lw_all) (h1 : 1 ≤ fr) (h2 : (rest.map fun v => v.category).sum + 12 ≤ rl) (hdg : decode cc pc = .ok (.invokespecial index, 3))
    (kk : G E l X cs kc ks (pc + 3) lv rest) : G E l X cs kc ks pc lv (.ref a :: rest) := fun H locs ls hP hD hS hl => by
  have hR := hX.2.2.2.2.2.2.2.1
  exact W.objInit hX.1 hX.2.1 hX.2.2.2.2.1 (hX.2.2.2.2.2.1 _ hw) (hX.2.2.2.2.2.1 _ hi) (hX.2.2.2.2.2.1 _ hc) rfl (hl.1.trans (hX.2.2.2.1.trans hX.2.2.1.symm)) rfl hdg (by rw [hR]; exact h1) (by rw [hR]; show 2 * 0 + _ + 12 ≤ _; rw [Nat.mul_zero, Nat.zero_add]; exact h2) (kk H locs ls hP hD hS hl)
/-! calls -/
/-- what a caller has of the callee's cells, at the call -/
theorem sp_sub {E : EE} {X : Fx} {cc : ByteArray} {own : String} {nL fr mc ms rl : Nat} {cs wc wr : List va_W} {H : Heap} {locs : List Loc} (hX : Cx E X cc own nL fr mc ms rl) (hp : cs.flatten.Perm (wc ++ wr).flatten) (hP : va_P E.1 Cl cs.flatten H) (hD : va_D (xA X) cs.flatten) (hS : va_S (xA X) (xs X).heap H locs) :
    (∀ q, va_A wc.flatten H.size q → xA X q) ∧ ∀ U : State, U.heap = H → (xs X).WarmedH U.vm → Wd E (va_A wc.flatten H.size) wc U := by
  rw [List.flatten_append] at hp
  have hP1 := sp_Pp hp hP
  obtain ⟨d1, d2⟩ := sp_Diff.mp (sp_Dp hp hD)
  have hF : ∀ q, va_A wc.flatten H.size q → xA X q := by
    intro q hq
    rcases sp_A.mp hq with ⟨e, h⟩ | h
    · exact d2 _ (List.mem_append_left _ h)
    · exact hX.2.2.2.2.2.2.2.2.2.2 q (Nat.le_trans hS.1 h)
  refine ⟨hF, fun U hU hW => ?_⟩
  subst hU
  exact ⟨sp_P.mpr fun q hq => sp_P.mp hP1 q (List.mem_append_left _ hq), va_K.moved hW.alike hX.2.2.2.2.2.2.2.2.1, sp_Diff.mpr ⟨(List.pairwise_append.mp d1).1, fun q hq => sp_A.mpr (Or.inl ⟨q.2, hq⟩)⟩, hX.2.2.2.2.2.2.2.2.2.1.call hW hS.2.1 hF⟩
theorem g_run (hX : Cx E X cc own nL fr mc ms rl) {wc wr : List va_W} {post : Option Value → List va_W → Prop} {H : Heap} {locs : List Loc} {ls : Array Slot} {st rest : List Value} {mc1 ms1 pc pc1 : Nat} {aa : Array Value} (hp : cs.flatten.Perm (wc ++ wr).flatten) (hP : va_P E.1 Cl cs.flatten H) (hD : va_D (xA X) cs.flatten) (hS : va_S (xA X) (xs X).heap H locs) (hl : lv_has ls (xn X) lv)
    (run : ∀ T : State, T.heap = H → Stand (xp X) l (xe X) (xR X) (xs X) (xm X) (xa X) (xb X) (xM X) (xc X) T locs kc ks → ∃ (v : Option Value) (st₀ t T' : State) (L : List Loc), st₀.heap = H ∧ Stand (xp X) l (xe X) (xR X) (xs X) (xm X) (xa X) (xb X) (xM X) (xc X) T' (locs ++ L) (kc + mc1) (ks + ms1) ∧ (∀ q ∈ L, va_A wc.flatten H.size q.base) ∧ T'.heap = t.heap ∧ T'.vm = t.vm ∧ Qx E post (va_A wc.flatten H.size) aa st₀ (.returned v) t ∧
      Goes (xp X) (xe X) (xb X) T (F0 (xm X) pc ls st) T' { F0 (xm X) pc ls st with pc := pc1, stack := v.toList ++ rest })
    (kk : ∀ (v : Option Value) (w1 : List va_W), post v w1 → G E l X (w1 ++ wr) (kc + mc1) (ks + ms1) pc1 lv (v.toList ++ rest)) :
    W (xp X) l (xe X) (xR X) (xs X) (xm X) (xa X) (xb X) (xM X) (xc X) H locs kc ks (xQ X) (F0 (xm X) pc ls st) := by
  intro T hT Xs
  obtain ⟨hF, -⟩ := sp_sub hX hp hP hD hS
  obtain ⟨v, st₀, t, T', L, h0, X', hL, e1, e2, ⟨⟨v', w1, hv, hpo, hP1, hD1⟩, hz, hk⟩, stp⟩ := run T hT Xs
  cases hv
  rw [h0] at hz hk
  have hp2 := hp
  rw [List.flatten_append] at hp2
  obtain ⟨hP2, hD2⟩ := sp_join (H1 := t.heap) (sp_Pp hp2 hP) (sp_Dp hp2 hD) hk hF hP1 hD1
  rw [← List.flatten_append] at hP2 hD2
  rw [← e1] at hP2 hk hz
  obtain ⟨t2, a1, b1⟩ := kk v w1 hpo T'.heap (locs ++ L) ls hP2 hD2 ⟨Nat.le_trans hS.1 hz, fun q h1 h2 => by rw [hk q (Nat.lt_of_lt_of_le h1 hS.1) (fun z => h2 (hF q z))]; exact hS.2.1 q h1 h2, fun q hq => by
      rcases List.mem_append.mp hq with h | h
      · exact hS.2.2 q h
      · exact hF _ (hL q h)⟩ hl T' rfl X'
  exact ⟨t2, stp t2 a1, b1⟩
/-- what the tables say of an instance method, a static one, a constructor -/
def KI (y : MethodName) (code : ByteArray) (nL : Nat) (ret : Option FieldType) (n : Nat) : Prop := Cond.code y code nL ret ∈ lw_all ∧ Cond.instanceMethod y ∈ lw_all ∧ Cond.selects y.cls y y ∈ lw_all ∧ Cond.initialized y.cls ∈ lw_all ∧ (y.cls ≠ "java/lang/invoke/MethodHandle" ∧ y.cls ≠ "java/lang/invoke/VarHandle" ∧ (parseMethodDescriptor y.desc).map (fun d => d.parameters.length) = some n)
def KS (y : MethodName) (code : ByteArray) (nL : Nat) (ret : Option FieldType) (n : Nat) : Prop := Cond.code y code nL ret ∈ lw_all ∧ Cond.static y ∈ lw_all ∧ Cond.initialized y.cls ∈ lw_all ∧ (y.cls ≠ "java/lang/invoke/MethodHandle" ∧ y.cls ≠ "java/lang/invoke/VarHandle" ∧ (parseMethodDescriptor y.desc).map (fun d => d.parameters.length) = some n)
def KC (y : MethodName) (code : ByteArray) (nL n : Nat) : Prop := Cond.code y code nL none ∈ lw_all ∧ Cond.instanceMethod y ∈ lw_all ∧ Cond.initialized y.cls ∈ lw_all ∧ y.name = "<init>" ∧ (y.cls ≠ "java/lang/invoke/MethodHandle" ∧ y.cls ≠ "java/lang/invoke/VarHandle" ∧ (parseMethodDescriptor y.desc).map (fun d => d.parameters.length) = some n)
theorem cx_fix {E : EE} {X : Fx} {cc : ByteArray} {own : String} {nL fr mc ms rl : Nat} (hX : Cx E X cc own nL fr mc ms rl) : CallFix (xp X) (xm X) (xc X) cc nL (xs X) (xa X) lw_all own := ⟨hX.1, hX.2.1, hX.2.2.1, hX.2.2.2.2.1, hX.2.2.2.2.2.1⟩
theorem cx_st {rest : List Value} {m : MethodId} {pc : Nat} {ls : Array Slot} {st : List Value} (h : (rest.map fun v => v.category).sum ≤ 8) : 2 * (F0 m pc ls st).monitorRoom + (rest.map fun v => v.category).sum ≤ 8 := lv_room h
/-- a call through an object -/
theorem g_callV (hX : Cx E X cc own nL fr mc ms rl) {y : MethodName} {code : ByteArray} {nL1 n fr1 mc1 ms1 rl1 b ci N index : Nat} {ret : Option FieldType} {As rest st : List Value} {wc wr : List va_W} {post : Option Value → List va_W → Prop} {T : u_T} {ty : Nat → FieldType} {fs : List Value}
    (hk : KI y code nL1 ret n) (hM : Mt E l y code nL1 ret fr1 mc1 ms1 rl1 (.ref b :: As) wc post) (hw : Cond.methodLink own index y ∈ lw_all) (hf : Fc ci y.cls T N ty) (hm : (b, ob ci fs) ∈ cs.flatten) (is : List Nat) (hp : pk is cs = some (wc, wr)) (hn : As.length = n) (hst : st = As.reverse ++ .ref b :: rest) (hc : (rest.map fun v => v.category).sum ≤ 8)
    (h1 : fr1 + 1 ≤ fr) (h2 : 8 + (nL1 + 11) + rl1 ≤ rl) (h3 : kc + mc1 ≤ mc) (h4 : ks + ms1 ≤ ms) (hdg : decode cc pc = .ok (.invokevirtual index, 3))
    (kk : ∀ (v : Option Value) (w1 : List va_W), post v w1 → G E l X (w1 ++ wr) (kc + mc1) (ks + ms1) (pc + 3) lv (v.toList ++ rest)) : G E l X cs kc ks pc lv st := fun H locs ls hP hD hS hl => by
  have hR := hX.2.2.2.2.2.2.2.1
  obtain ⟨-, hpre⟩ := sp_sub hX (pk_flat hp) hP hD hS
  obtain ⟨q0, h0⟩ := List.mem_iff_getElem?.mp hm
  exact g_run hX (pk_flat hp) hP hD hS hl (va_runV (As := As) (rest := rest) (cx_fix hX) (hM H.size) (cwV n hX.2.2.2.2.2.1 (lw_V hw hk.2.1 hk.2.2.1 hk.2.2.2.1 hk.1) rfl rfl rfl ⟨rfl, hk.2.2.2.2⟩ (by rw [hR]; exact ⟨h1, h2⟩))
    ⟨Wd.blind, va_recv hX.2.2.2.2.2.2.2.2.1 hP hf.1 h0, fun U hU hW => ⟨rfl, by rw [hU], hpre U hU hW⟩⟩ rfl hn (hl.1.trans hX.2.2.2.1) hst (cx_st hc) hdg (by rw [hR]; exact ⟨h3, h4⟩)) kk
/-- a static call -/
theorem g_callS (hX : Cx E X cc own nL fr mc ms rl) {y : MethodName} {code : ByteArray} {nL1 n fr1 mc1 ms1 rl1 index : Nat} {ret : Option FieldType} {As rest st : List Value} {wc wr : List va_W} {post : Option Value → List va_W → Prop}
    (hk : KS y code nL1 ret n) (hM : Mt E l y code nL1 ret fr1 mc1 ms1 rl1 As wc post) (hw : Cond.methodLink own index y ∈ lw_all) (is : List Nat) (hp : pk is cs = some (wc, wr)) (hn : As.length = n) (hst : st = As.reverse ++ rest) (hc : (rest.map fun v => v.category).sum ≤ 8)
    (h1 : fr1 + 1 ≤ fr) (h2 : 8 + (nL1 + 11) + rl1 ≤ rl) (h3 : kc + mc1 ≤ mc) (h4 : ks + ms1 ≤ ms) (hdg : decode cc pc = .ok (.invokestatic index, 3))
    (kk : ∀ (v : Option Value) (w1 : List va_W), post v w1 → G E l X (w1 ++ wr) (kc + mc1) (ks + ms1) (pc + 3) lv (v.toList ++ rest)) : G E l X cs kc ks pc lv st := fun H locs ls hP hD hS hl => by
  have hR := hX.2.2.2.2.2.2.2.1
  obtain ⟨-, hpre⟩ := sp_sub hX (pk_flat hp) hP hD hS
  exact g_run hX (pk_flat hp) hP hD hS hl (va_runS (As := As) (rest := rest) (cx_fix hX) (hM H.size) (va_cwS n hX.2.2.2.2.2.1 (lw_S hw hk.2.1 hk.2.2.1 hk.1) rfl rfl rfl hk.2.2.2 (by rw [hR]; exact ⟨h1, h2⟩))
    ⟨Wd.blind, fun U hU hW => ⟨rfl, by rw [hU], hpre U hU hW⟩⟩ rfl hn (hl.1.trans hX.2.2.2.1) hst (cx_st hc) hdg (by rw [hR]; exact ⟨h3, h4⟩)) kk
/-- a constructor -/
theorem g_callI (hX : Cx E X cc own nL fr mc ms rl) {y : MethodName} {code : ByteArray} {nL1 n fr1 mc1 ms1 rl1 b index : Nat} {As rest st : List Value} {wc wr : List va_W} {post : Option Value → List va_W → Prop}
    (hk : KC y code nL1 n) (hM : Mt E l y code nL1 none fr1 mc1 ms1 rl1 (.ref b :: As) wc post) (hw : Cond.methodLink own index y ∈ lw_all) (is : List Nat) (hp : pk is cs = some (wc, wr)) (hn : As.length = n) (hst : st = As.reverse ++ .ref b :: rest) (hc : (rest.map fun v => v.category).sum ≤ 8)
    (h1 : fr1 + 1 ≤ fr) (h2 : 8 + (nL1 + 11) + rl1 ≤ rl) (h3 : kc + mc1 ≤ mc) (h4 : ks + ms1 ≤ ms) (hdg : decode cc pc = .ok (.invokespecial index, 3))
    (kk : ∀ (v : Option Value) (w1 : List va_W), post v w1 → G E l X (w1 ++ wr) (kc + mc1) (ks + ms1) (pc + 3) lv (v.toList ++ rest)) : G E l X cs kc ks pc lv st := fun H locs ls hP hD hS hl => by
  have hR := hX.2.2.2.2.2.2.2.1
  obtain ⟨-, hpre⟩ := sp_sub hX (pk_flat hp) hP hD hS
  exact g_run hX (pk_flat hp) hP hD hS hl (va_runI (As := As) (rest := rest) (cx_fix hX) (hM H.size) (cwI n hX.2.2.2.2.2.1 (lw_meth hk.1) rfl rfl rfl (hX.2.2.2.2.2.1 _ hk.2.2.1) (hX.2.2.2.2.2.1 _ hw) (hX.2.2.2.2.2.1 _ hk.2.1) hk.2.2.2.1 hk.2.2.2.2 (by rw [hR]; exact ⟨h1, h2⟩))
    ⟨Wd.blind, fun U hU hW => ⟨rfl, by rw [hU], hpre U hU hW⟩⟩ rfl hn (hl.1.trans hX.2.2.2.1) hst (cx_st hc) hdg (by rw [hR]; exact ⟨h3, h4⟩)) kk
end LAY
