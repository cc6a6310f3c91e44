/-! LAYER: a world in blocks (a list of lists of cells), one bundle of what holds in a walk, heap rows, contracts and calls over it -/
set_option maxRecDepth 100000
theorem fl_get {α : Type} : ∀ {bs : List (List α)} {i j : Nat} {blk : List α} {q : α}, bs[i]? = some blk → blk[j]? = some q → bs.flatten[(bs.take i).flatten.length + j]? = some q
  | [], i, j, blk, q, h, _ => by simp at h
  | b :: bs, 0, j, blk, q, h, h2 => by
    simp only [List.getElem?_cons_zero, Option.some.injEq] at h
    subst h
    simp only [List.take_zero, List.flatten_nil, List.length_nil, Nat.zero_add, List.flatten_cons]
    rw [List.getElem?_append_left (List.getElem?_eq_some_iff.mp h2).1]
    exact h2
  | b :: bs, i + 1, j, blk, q, h, h2 => by
    simp only [List.getElem?_cons_succ] at h
    simp only [List.take_succ_cons, List.flatten_cons, List.length_append]
    rw [Nat.add_assoc, List.getElem?_append_right (Nat.le_add_right _ _), Nat.add_sub_cancel_left]
    exact fl_get h h2
theorem fl_set {α : Type} : ∀ {bs : List (List α)} {i j : Nat} {blk : List α} {x : α}, bs[i]? = some blk → j < blk.length → bs.flatten.set ((bs.take i).flatten.length + j) x = (bs.set i (blk.set j x)).flatten
  | [], i, j, blk, x, h, _ => by simp at h
  | b :: bs, 0, j, blk, x, h, h2 => by
    simp only [List.getElem?_cons_zero, Option.some.injEq] at h
    subst h
    simp only [List.take_zero, List.flatten_nil, List.length_nil, Nat.zero_add, List.flatten_cons, List.set_cons_zero]
    rw [List.set_append_left _ _ h2]
  | b :: bs, i + 1, j, blk, x, h, h2 => by
    simp only [List.getElem?_cons_succ] at h
    simp only [List.take_succ_cons, List.flatten_cons, List.length_append, List.set_cons_succ]
    rw [Nat.add_assoc, List.set_append_right _ _ (Nat.le_add_right _ _), Nat.add_sub_cancel_left, fl_set h h2]
/-- class numbers and slots of our classes; class numbers of the array types; addresses: 0 the first that is ours -/
abbrev KG : Type := va_G × (Nat → ClassId) × (Nat → Nat)
def kCL : List vw_C := [(RX2, TX2, 20), (RX0, TX0, 6), (RX1, TX1, 12), (RX3, TX3, 8), (RX4, TX4, 5), (RJ2, TJ2, 3), (RJ7, TJ7, 4)]
def kTY (G : KG) : List (ClassId × FieldType) := [(G.2.1 0, .int), (G.2.1 1, .boolean), (G.2.1 2, .char), (G.2.1 3, .byte), (G.2.1 4, .object "java/lang/Object")]
def kO (G : KG) (A : Nat → Prop) (bs : List va_W) (H : Heap) : Prop :=
  (∀ q ∈ bs.flatten, va_at G.1 kCL q H) ∧ (bs.flatten.map (fun q => q.1)).Nodup ∧ ∀ q ∈ bs.flatten, A q.1
theorem kO.P {G : KG} {A : Nat → Prop} {bs : List va_W} {H : Heap} (h : kO G A bs H) : va_P G.1 kCL bs.flatten H := fun k q hk => h.1 q (List.mem_of_getElem? hk)
theorem kO.D {G : KG} {A : Nat → Prop} {bs : List va_W} {H : Heap} (h : kO G A bs H) : va_D A bs.flatten := by
  refine ⟨fun i j p q hi hj e => ?_, fun k q hk => h.2.2 q (List.mem_of_getElem? hk)⟩
  have hl : i < (bs.flatten.map (fun q => q.1)).length := by
    rw [List.length_map]
    exact (List.getElem?_eq_some_iff.mp hi).1
  refine (List.getElem?_inj hl h.2.1).mp ?_
  rw [List.getElem?_map, List.getElem?_map, hi, hj]
  simp [e]
theorem kO.of {G : KG} {A : Nat → Prop} {bs : List va_W} {H : Heap} (hP : va_P G.1 kCL bs.flatten H) (hD : va_D A bs.flatten) : kO G A bs H := by
  refine ⟨fun q hq => ?_, ?_, fun q hq => ?_⟩
  · obtain ⟨k, hk⟩ := List.getElem?_of_mem hq
    exact hP k q hk
  · refine List.pairwise_iff_getElem.mpr fun i j hi hj hij e => ?_
    rw [List.getElem_map, List.getElem_map] at e
    have hi' : i < bs.flatten.length := by rwa [List.length_map] at hi
    have hj' : j < bs.flatten.length := by rwa [List.length_map] at hj
    have := hD.1 i j _ _ (List.getElem?_eq_getElem hi') (List.getElem?_eq_getElem hj') e
    omega
  · obtain ⟨k, hk⟩ := List.getElem?_of_mem hq
    exact hD.2 k q hk
theorem kO.perm {G : KG} {A : Nat → Prop} {bs bs' : List va_W} {H : Heap} (h : kO G A bs H) (p : bs.flatten.Perm bs'.flatten) : kO G A bs' H :=
  ⟨fun q hq => h.1 q (p.mem_iff.mpr hq), (p.map _).nodup h.2.1, fun q hq => h.2.2 q (p.mem_iff.mpr hq)⟩
theorem kO.cut {G : KG} {A : Nat → Prop} {bs bs' : List va_W} {H : Heap} (h : kO G A (bs ++ bs') H) : kO G A bs H := by
  refine ⟨fun q hq => h.1 q ?_, ?_, fun q hq => h.2.2 q ?_⟩
  · rw [List.flatten_append]; exact List.mem_append_left _ hq
  · have := h.2.1
    rw [List.flatten_append, List.map_append] at this
    exact (List.nodup_append.mp this).1
  · rw [List.flatten_append]; exact List.mem_append_left _ hq
theorem kO.weaken {G : KG} {A B : Nat → Prop} {bs : List va_W} {H : Heap} (h : kO G A bs H) (hAB : ∀ q ∈ bs.flatten, A q.1 → B q.1) : kO G B bs H := ⟨h.1, h.2.1, fun q hq => hAB q hq (h.2.2 q hq)⟩
/-- blocks by their places, in another order: the places are a permutation of all -/
theorem k_perm {bs bs' : List va_W} (is : List Nat) (hp : is.Perm (List.range bs.length)) (hs : is.map (fun i => bs[i]?) = bs'.map some) : bs.flatten.Perm bs'.flatten := by
  have h1 : (is.map (fun i => bs[i]?)).Perm ((List.range bs.length).map (fun i => bs[i]?)) := hp.map _
  have h2 : (List.range bs.length).map (fun i => bs[i]?) = bs.map some := by
    refine List.ext_getElem? fun i => ?_
    rw [List.getElem?_map, List.getElem?_map]
    by_cases hi : i < bs.length
    · rw [List.getElem?_range hi, List.getElem?_eq_getElem hi]; simp
    · rw [List.getElem?_eq_none (by rw [List.length_range]; omega), List.getElem?_eq_none (by omega)]; rfl
  rw [hs, h2] at h1
  have h3 := h1.filterMap id
  simp only [List.filterMap_map] at h3
  have h4 : ∀ l : List va_W, l.filterMap (id ∘ some) = l := fun l => by
    rw [show (id ∘ some : va_W → Option va_W) = some from rfl, List.filterMap_some]
  rw [h4, h4] at h3
  exact h3.symm.flatten
theorem kO.pick {G : KG} {A : Nat → Prop} {bs bs' : List va_W} {H : Heap} (h : kO G A bs H) (is : List Nat) (hp : is.Perm (List.range bs.length)) (hs : is.map (fun i => bs[i]?) = bs'.map some) : kO G A bs' H := h.perm (k_perm is hp hs)
/-- blocks that are gone: what is left, by places -/
theorem kO.lt {G : KG} {A : Nat → Prop} {bs : List va_W} {H : Heap} (h : kO G A bs H) {q : Nat × va_E} (hq : q ∈ bs.flatten) : q.1 < H.size := (h.1 q hq).lt
def kA (bs : List va_W) (sz : Nat) : Nat → Prop := fun q => q ∈ bs.flatten.map (fun q => q.1) ∨ sz ≤ q
/-- THE FRAME RULE: what a call changed is among the blocks bsC and what is new; the others stand -/
theorem kO.join {G : KG} {A : Nat → Prop} {bsC bsR bs1 : List va_W} {H H1 : Heap} (h : kO G A (bsC ++ bsR) H) (hk : ∀ q : Nat, q < H.size → ¬ kA bsC H.size q → H1[q]? = H[q]?) (hA : ∀ q : Nat, H.size ≤ q → A q) (h1 : kO G (kA bsC H.size) bs1 H1) : kO G A (bs1 ++ bsR) H1 := by
  have hn := h.2.1
  rw [List.flatten_append, List.map_append, List.nodup_append] at hn
  have hR : ∀ q ∈ bsR.flatten, q.1 < H.size ∧ ¬ kA bsC H.size q.1 := fun q hq => by
    have hl : q.1 < H.size := h.lt (by rw [List.flatten_append]; exact List.mem_append_right _ hq)
    refine ⟨hl, fun z => ?_⟩
    rcases z with z | z
    · exact hn.2.2 _ z _ (List.mem_map.mpr ⟨q, hq, rfl⟩) rfl
    · omega
  refine ⟨fun q hq => ?_, ?_, fun q hq => ?_⟩
  · rw [List.flatten_append] at hq
    rcases List.mem_append.mp hq with hq | hq
    · exact h1.1 q hq
    · exact (h.1 q (by rw [List.flatten_append]; exact List.mem_append_right _ hq)).kept (hk _ (hR q hq).1 (hR q hq).2)
  · rw [List.flatten_append, List.map_append, List.nodup_append]
    refine ⟨h1.2.1, hn.2.1, fun a ha b hb e => ?_⟩
    subst e
    obtain ⟨q, hq, rfl⟩ := List.mem_map.mp ha
    obtain ⟨q', hq', e⟩ := List.mem_map.mp hb
    have := (hR q' hq').2
    rw [e] at this
    exact this (h1.2.2 q hq)
  · rw [List.flatten_append] at hq
    rcases List.mem_append.mp hq with hq | hq
    · rcases h1.2.2 q hq with z | z
      · obtain ⟨q', hq', e⟩ := List.mem_map.mp z
        rw [← e]
        exact h.2.2 q' (by rw [List.flatten_append]; exact List.mem_append_left _ hq')
      · exact hA _ z
    · exact h.2.2 q (by rw [List.flatten_append]; exact List.mem_append_right _ hq)
/-! what holds of the tables and of the statics all through: nest mates' links, casts, interfaces, statics that nobody writes -/
def kNest : Cond → Bool
  | .fieldLinkNest _ _ _ _ _ _ => true
  | .methodLinkNest _ _ _ _ => true
  | .castable _ _ => true
  | .declares _ => true
  | _ => false
theorem kNest_tab {w : Cond} (h : kNest w = true) : w.onTables = true := by
  cases w <;> first | rfl | exact absurd h (by simp [kNest])
theorem kN_warm {s U : State} (hW : s.WarmedH U.vm) {w : Cond} (h : kNest w = true) (hz : va_Nw w s) : va_Nw w U := by
  cases w <;> first | exact va_Nw.warmF hW hz | exact va_Nw.warmM hW hz | exact va_Nw.warmC hW hz | exact va_Nw.warmD hW hz | exact absurd h (by simp [kNest])
def kxAdd : MethodName := ⟨"java/util/List", "add", "(Ljava/lang/Object;)Z"⟩
def kxGet : MethodName := ⟨"java/util/List", "get", "(I)Ljava/lang/Object;"⟩
def kxSize : MethodName := ⟨"java/util/List", "size", "()I"⟩
def kxEmpty : MethodName := ⟨"java/util/List", "isEmpty", "()Z"⟩
def kxRemove : MethodName := ⟨"java/util/List", "remove", "(I)Ljava/lang/Object;"⟩
def kxIndexOf : MethodName := ⟨"java/util/List", "indexOf", "(Ljava/lang/Object;)I"⟩
def kxLength : MethodName := ⟨"java/lang/CharSequence", "length", "()I"⟩
def kxCharAt : MethodName := ⟨"java/lang/CharSequence", "charAt", "(I)C"⟩
def kFws : List (String × MethodName × MethodName) := [(RJ2, kxAdd, yJ2_add), (RJ2, kxGet, yJ2_get), (RJ2, kxSize, yJ2_size), (RJ2, kxEmpty, yJ2_isEmpty), (RJ2, kxRemove, yJ2_remove), (RJ2, kxIndexOf, yJ2_indexOf), (RJ7, kxLength, yJ7_length), (RJ7, kxCharAt, yJ7_charAt)]
def kStat (G : KG) (U : State) (H : Heap) : Prop :=
  va_Z "java/util/ArrayList" "DEFAULTCAPACITY_EMPTY_ELEMENTDATA" "[Ljava/lang/Object;" (.ref (G.2.2 1)) (fun q => G.2.2 0 ≤ q) U H ∧
  (va_at G.1 kCL (G.2.2 1, .inl (G.2.1 4, 0, .inr (.inr (.inr (.inr (fun _ => none)))))) H ∧ G.2.2 1 < G.2.2 0) ∧
  va_Z "java/lang/String" "COMPACT_STRINGS" "Z" (.int 1) (fun q => G.2.2 0 ≤ q) U H ∧
  va_Z "java/lang/StringUTF16" "$assertionsDisabled" "Z" (.int 1) (fun q => G.2.2 0 ≤ q) U H ∧
  va_Z "java/lang/StringUTF16" "HI_BYTE_SHIFT" "I" (.int 0) (fun q => G.2.2 0 ≤ q) U H ∧
  va_Z "java/lang/StringUTF16" "LO_BYTE_SHIFT" "I" (.int 8) (fun q => G.2.2 0 ≤ q) U H ∧
  ∃ r : Option Nat, va_Z "jdk/internal/util/Preconditions" "SIOOBE_FORMATTER" "Ljava/util/function/BiFunction;" (va_rf r) (fun q => G.2.2 0 ≤ q) U H
theorem kStat.moved {G : KG} {u U : State} {H H1 : Heap} (hvm : u.vm.Alike U.vm) (hq : ∀ q : Nat, q < H.size → ¬ G.2.2 0 ≤ q → H1[q]? = H[q]?) (h : kStat G u H) : kStat G U H1 := by
  obtain ⟨h1, ⟨h2, h2'⟩, h3, h4, h5, h6, r, h7⟩ := h
  have hl : G.2.2 1 < H.size := h2.lt
  exact ⟨(h1.moved hvm).kept hq, ⟨h2.kept (hq _ hl (by omega)), h2'⟩, (h3.moved hvm).kept hq, (h4.moved hvm).kept hq, (h5.moved hvm).kept hq, (h6.moved hvm).kept hq, r, (h7.moved hvm).kept hq⟩
/-! the lambdas' sites: their shapes; what the tables say of each, all through -/
def sg0 : Lambda.Shape := { iface := "CanalSteps$Choice", name := "is", sam := ({ parameters := [(Jvm.ClassFile.FieldType.object "CanalSteps$Boat")], returnType := (Option.some Jvm.ClassFile.FieldType.boolean) } : Jvm.ClassFile.MethodDescriptor), captured := [], kind := 6, implClass := "CanalSteps$Canal", implName := "lambda$arrivals$0", implDesc := ({ parameters := [(Jvm.ClassFile.FieldType.object "CanalSteps$Boat")], returnType := (Option.some Jvm.ClassFile.FieldType.boolean) } : Jvm.ClassFile.MethodDescriptor), implItf := false, inst := ({ parameters := [(Jvm.ClassFile.FieldType.object "CanalSteps$Boat")], returnType := (Option.some Jvm.ClassFile.FieldType.boolean) } : Jvm.ClassFile.MethodDescriptor) }
def sg1 : Lambda.Shape := { iface := "CanalSteps$Choice", name := "is", sam := ({ parameters := [(Jvm.ClassFile.FieldType.object "CanalSteps$Boat")], returnType := (Option.some Jvm.ClassFile.FieldType.boolean) } : Jvm.ClassFile.MethodDescriptor), captured := [Jvm.ClassFile.FieldType.int], kind := 6, implClass := "CanalSteps", implName := "lambda$pound$0", implDesc := ({ parameters := [Jvm.ClassFile.FieldType.int, (Jvm.ClassFile.FieldType.object "CanalSteps$Boat")], returnType := (Option.some Jvm.ClassFile.FieldType.boolean) } : Jvm.ClassFile.MethodDescriptor), implItf := false, inst := ({ parameters := [(Jvm.ClassFile.FieldType.object "CanalSteps$Boat")], returnType := (Option.some Jvm.ClassFile.FieldType.boolean) } : Jvm.ClassFile.MethodDescriptor) }
def sg2 : Lambda.Shape := { iface := "CanalSteps$Choice", name := "is", sam := ({ parameters := [(Jvm.ClassFile.FieldType.object "CanalSteps$Boat")], returnType := (Option.some Jvm.ClassFile.FieldType.boolean) } : Jvm.ClassFile.MethodDescriptor), captured := [Jvm.ClassFile.FieldType.int], kind := 6, implClass := "CanalSteps", implName := "lambda$pound$1", implDesc := ({ parameters := [Jvm.ClassFile.FieldType.int, (Jvm.ClassFile.FieldType.object "CanalSteps$Boat")], returnType := (Option.some Jvm.ClassFile.FieldType.boolean) } : Jvm.ClassFile.MethodDescriptor), implItf := false, inst := ({ parameters := [(Jvm.ClassFile.FieldType.object "CanalSteps$Boat")], returnType := (Option.some Jvm.ClassFile.FieldType.boolean) } : Jvm.ClassFile.MethodDescriptor) }
def sg3 : Lambda.Shape := { iface := "CanalSteps$Choice", name := "is", sam := ({ parameters := [(Jvm.ClassFile.FieldType.object "CanalSteps$Boat")], returnType := (Option.some Jvm.ClassFile.FieldType.boolean) } : Jvm.ClassFile.MethodDescriptor), captured := [(Jvm.ClassFile.FieldType.object "CanalSteps$Canal")], kind := 6, implClass := "CanalSteps", implName := "lambda$ifTicks$2", implDesc := ({ parameters := [(Jvm.ClassFile.FieldType.object "CanalSteps$Canal"), (Jvm.ClassFile.FieldType.object "CanalSteps$Boat")], returnType := (Option.some Jvm.ClassFile.FieldType.boolean) } : Jvm.ClassFile.MethodDescriptor), implItf := false, inst := ({ parameters := [(Jvm.ClassFile.FieldType.object "CanalSteps$Boat")], returnType := (Option.some Jvm.ClassFile.FieldType.boolean) } : Jvm.ClassFile.MethodDescriptor) }
def sg4 : Lambda.Shape := { iface := "CanalSteps$Choice", name := "is", sam := ({ parameters := [(Jvm.ClassFile.FieldType.object "CanalSteps$Boat")], returnType := (Option.some Jvm.ClassFile.FieldType.boolean) } : Jvm.ClassFile.MethodDescriptor), captured := [(Jvm.ClassFile.FieldType.object "CanalSteps")], kind := 5, implClass := "CanalSteps", implName := "lambda$count$3", implDesc := ({ parameters := [(Jvm.ClassFile.FieldType.object "CanalSteps$Boat")], returnType := (Option.some Jvm.ClassFile.FieldType.boolean) } : Jvm.ClassFile.MethodDescriptor), implItf := false, inst := ({ parameters := [(Jvm.ClassFile.FieldType.object "CanalSteps$Boat")], returnType := (Option.some Jvm.ClassFile.FieldType.boolean) } : Jvm.ClassFile.MethodDescriptor) }
def kSites : List (MethodName × Nat × Nat × Lambda.Shape) := [(⟨"CanalSteps$Canal", "arrivals", "()I"⟩, 1, 93, sg0), (⟨"CanalSteps", "pound", "(II)I"⟩, 14, 229, sg1), (⟨"CanalSteps", "pound", "(II)I"⟩, 28, 237, sg2), (⟨"CanalSteps", "ifTicks", "(II)I"⟩, 95, 261, sg3), (⟨"CanalSteps", "count", "(I)I"⟩, 108, 266, sg4)]
def kLam (U : State) (H : Heap) (x : MethodName) (pc index : Nat) (sg : Lambda.Shape) (cK : ClassId) (one : Option Nat) : Prop :=
  ∃ (m : MethodId) (k : Class) (cf : ClassFile) (i0 p0 : Nat) (lk : Linked), U.methodNamed? x = some m ∧ U.vm.classes[m.cls]? = some k ∧ k.cf = some cf ∧ Lambda.shapeOf? cf index = some sg ∧ (k.callSites.find? fun y => y.1 == m.idx && y.2.1 == pc) = some (i0, p0, lk) ∧ Lambda.isMade { classPath := fun _ => none } U.vm m.cls sg cK = true ∧ U.lambdaCallable sg cK = true ∧ (∀ a, one = some a → lk = .constant a ∧ H[a]? = some (arrV cK 0 (fun _ => .int 0))) ∧ (one = none → lk = .makes cK)
theorem kLam.warm {s U : State} {H H1 : Heap} {x : MethodName} {pc index : Nat} {sg : Lambda.Shape} {cK : ClassId} {one : Option Nat} (hW : s.WarmedH U.vm) (hH : ∀ a c0, one = some a → H[a]? = some c0 → H1[a]? = some c0) (h : kLam s H x pc index sg cK one) : kLam U H1 x pc index sg cK one := by
  obtain ⟨m, kc, cf, i0, p0, lk, hm, hk, hcf, hsh, hfind, hmade, hcall, h1, h2⟩ := h
  have hA := hW.alike
  have hcall' : U.lambdaCallable sg cK = true := by
    simp only [State.lambdaCallable, hA.findClass, hA.assignable, hA.superclasses, hA.declaredIn] at hcall ⊢
    exact hcall
  obtain ⟨kc', hk', he⟩ := hA.2.2 _ _ hk
  have hm' : U.methodNamed? x = some m := by
    have := State.methodNamed?_setVm (s := s) hA x
    rw [hm] at this
    exact this
  exact ⟨m, kc', cf, i0, p0, lk, hm', hk', by rw [he]; exact hcf, hsh, by rw [he]; exact hfind, Lambda.isMade_warmer hW hmade, hcall', fun a e => ⟨(h1 a e).1, hH a _ e (h1 a e).2⟩, h2⟩
def kxIs : MethodName := ⟨"CanalSteps$Choice", "is", "(LCanalSteps$Boat;)Z"⟩
def kIs (U : State) : Prop := (Cond.declares kxIs).before #[] U = true ∧ (Cond.interfaceMethod kxIs.cls kxIs.cls kxIs.name kxIs.desc).before #[] U = true
theorem kIs.moved {u U : State} (hvm : u.vm.Alike U.vm) (h : kIs u) : kIs U := by
  obtain ⟨h1, h2⟩ := h
  obtain ⟨r, meth, hn, -⟩ := Cond.declares_spec h1
  have hmh : kxIs.cls ≠ "java/lang/invoke/MethodHandle" ∧ kxIs.cls ≠ "java/lang/invoke/VarHandle" := by decide +kernel
  have tr : ∀ {c : Cond}, c.onTables = true → c.before #[] (u.setVm U.vm) = true → c.before #[] U = true := by
    intro c hc h
    have e := Cond.onTables_vm (A := #[]) (A' := #[]) (U := u) (U' := U) U.vm c hc
    have hU : U.setVm U.vm = U := rfl
    rw [hU] at e
    rw [← e]
    exact h
  exact ⟨tr rfl (by rw [Cond.declares_setVm hvm]; exact h1), tr rfl ((Cond.interfaceMethod_setVm hvm (r := r) hn hmh).trans h2)⟩
def kLams (G : KG) (U : State) (H : Heap) : Prop := G.2.2 3 < G.2.2 0 ∧ kIs U ∧ ∀ (i : Nat) (t : MethodName × Nat × Nat × Lambda.Shape), kSites[i]? = some t → kLam U H t.1 t.2.1 t.2.2.1 t.2.2.2 (G.2.1 (10 + i)) (if i = 0 then some (G.2.2 3) else none)
theorem kLams.warm {G : KG} {s U : State} {H H1 : Heap} (hW : s.WarmedH U.vm) (hq : ∀ q : Nat, q < H.size → ¬ G.2.2 0 ≤ q → H1[q]? = H[q]?) (h : kLams G s H) : kLams G U H1 := by
  refine ⟨h.1, h.2.1.moved hW.alike, fun i t ht => (h.2.2 i t ht).warm hW fun a c0 e h0 => ?_⟩
  have ha : a = G.2.2 3 := by
    by_cases z : i = 0
    · rw [if_pos z] at e; exact (Option.some.inj e).symm
    · rw [if_neg z] at e; cases e
  have hl : a < H.size := by
    rcases Nat.lt_or_ge a H.size with z | z
    · exact z
    · rw [Array.getElem?_eq_none z] at h0; cases h0
  have h3 := h.1
  rw [hq a hl (by omega)]
  exact h0
def GK (G : KG) (U : State) (H : Heap) : Prop :=
  va_K G.1 kCL (kTY G) U ∧ (∀ w ∈ lw_tbl, kNest w = true → va_Nw w U) ∧ (∀ t ∈ kFws, va_Fw t.1 t.2.1 t.2.2 U) ∧ va_AO "java/lang/Object" U ∧ va_Mi "[Ljava/lang/Object;" (G.2.2 2) U ∧ kStat G U H ∧ kLams G U H
theorem kFws_mh : ∀ t ∈ kFws, t.2.1.cls ≠ "java/lang/invoke/MethodHandle" ∧ t.2.1.cls ≠ "java/lang/invoke/VarHandle" := by
  intro t ht
  simp only [kFws, List.mem_cons, List.not_mem_nil, or_false] at ht
  rcases ht with rfl | rfl | rfl | rfl | rfl | rfl | rfl | rfl <;> decide +kernel
theorem GK.to {G : KG} {u U : State} {H H1 : Heap} (hvm : u.vm.Alike U.vm) (hN : ∀ w, kNest w = true → va_Nw w u → va_Nw w U) (hL : kLams G u H → kLams G U H1) (hq : ∀ q : Nat, q < H.size → ¬ G.2.2 0 ≤ q → H1[q]? = H[q]?) (h : GK G u H) : GK G U H1 := by
  obtain ⟨h1, h2, h3, h4, h5, h6, h7⟩ := h
  exact ⟨h1.moved hvm, fun w hw hk => hN w hk (h2 w hw hk), fun t ht => (h3 t ht).moved (kFws_mh t ht) hvm, h4.moved hvm, h5.moved hvm, h6.moved hvm hq, hL h7⟩
theorem GK.warm {G : KG} {s U : State} {H H1 : Heap} (hW : s.WarmedH U.vm) (hq : ∀ q : Nat, q < H.size → ¬ G.2.2 0 ≤ q → H1[q]? = H[q]?) (h : GK G s H) : GK G U H1 := h.to hW.alike (fun _ hk hz => kN_warm hW hk hz) (fun z => z.warm hW hq) hq
theorem GK.calling {G : KG} {U : State} {H : Heap} {g : JFrame} {mk : MethodId} {a : Array Value} (h : GK G U H) : GK G (U.calling g mk a) H :=
  h.to (U := U.calling g mk a) (Vm.Alike.refl U.vm) (fun w hk hz => va_Nw.same (u := U) (U := U.calling g mk a) (kNest_tab hk) rfl hz) (fun z => z) (fun _ _ _ => rfl)
/-- one bundle: the machine, the code, the tables' words, what stays -/
def kC (p : Program) (s : State) (m : MethodId) (args : Array Value) (meth : Method) (c : Code) (cc : ByteArray) (nL : Nat) (ret : Option FieldType) (own : String) (G : KG) (A : Nat → Prop) : Prop :=
  p.tables.exec = Jvm.exec ∧ c.code = cc ∧ meth.sig.returnType = ret ∧ c.maxLocals = nL ∧ s.vm.findClass own = some m.cls ∧ (∀ w ∈ lw_all, w.before args s = true) ∧ meth.locks = false ∧ GK G s s.heap ∧ (∀ q : Nat, s.heap.size ≤ q → A q) ∧ (∀ q : Nat, A q → G.2.2 0 ≤ q)
def kW (G : KG) (s : State) (A : Nat → Prop) (bs : List va_W) (H : Heap) (locs : List Loc) : Prop := kO G A bs H ∧ va_S A s.heap H locs
def kPc (G : KG) (av : List Value) (bs : List va_W) (sz : Nat) : Array Value → State → Prop := fun a U => a = av.toArray ∧ U.heap.size = sz ∧ GK G U U.heap ∧ G.2.2 0 ≤ U.heap.size ∧ kO G (fun q => G.2.2 0 ≤ q) bs U.heap
def kQc (G : KG) (Qp : Option Value → List va_W → Prop) (A : Nat → Prop) : Array Value → State → Outcome → State → Prop := fun _ st o t => (∃ (v : Option Value) (bs' : List va_W), o = .returned v ∧ Qp v bs' ∧ kO G A bs' t.heap) ∧ va_F A st t
/-- a method's contract: from a world of the blocks bs, with these arguments, it returns; its answer and the blocks behind it satisfy Qp; nothing else changed -/
def KM (l : Launch) (y : MethodName) (cc : ByteArray) (nL : Nat) (ret : Option FieldType) (fr lo mc ms : Nat) (G : KG) (av : List Value) (bs : List va_W) (Qp : Option Value → List va_W → Prop) : Prop :=
  ∀ sz : Nat, Met l y (ws_ y cc nL ret) ({ frames := fr, cells := mc, slots := ms, locals := lo } : Room) (kPc G av bs sz) (kQc G Qp (kA bs sz)) mc ms (kA bs sz)
/-- the answer and the world behind are told -/
abbrev kDet (v : Option Value) (bs' : List va_W) : Option Value → List va_W → Prop := fun v' b => v' = v ∧ b = bs'
abbrev KQ (G : KG) (A : Nat → Prop) (Qp : Option Value → List va_W → Prop) (below : List Frame) (args : Array Value) (s : State) (mc ms : Nat) : State → Prop := MQ below (kQc G Qp A) args s mc ms A
theorem kPc_blind {G : KG} {av : List Value} {bs : List va_W} {sz : Nat} : FrameBlind (kPc G av bs sz) := by
  intro a U g mk h
  obtain ⟨h1, h2, h3, h4, h5⟩ := h
  exact ⟨h1, h2, h3.calling, h4, h5⟩
theorem KM.of {l : Launch} {y : MethodName} {cc : ByteArray} {nL : Nat} {ret : Option FieldType} {fr lo mc ms : Nat} {G : KG} {av : List Value} {bs : List va_W} {Qp : Option Value → List va_W → Prop} {own : String}
    (hy : plainName y.cls = true) (ho : y.cls = own) (hlen : (lg_sl av).length ≤ nL)
    (body : ∀ (p : Program) (e : Env) (s : State) (m : MethodId) (args : Array Value) (below : List Frame) (meth : Method) (c : Code) (A : Nat → Prop) (ls : Array Slot) (H : Heap), kC p s m args meth c cc nL ret own G A → meth.name = y.name → kW G s A bs H [] → lv_has ls nL (lv_args 0 av) →
      W p l e ({ frames := fr, cells := mc, slots := ms, locals := lo } : Room) s m args below meth c H [] 0 0 (KQ G A Qp below args s mc ms) (F0 m 0 ls [])) : KM l y cc nL ret fr lo mc ms G av bs Qp := by
  intro sz
  refine Met.ofW (cc := cc) (maxL := nL) (ret := ret) hy rfl ?_
  intro p e s m args below meth c s₁ B hml hv
  obtain ⟨rfl, hsz, hG, hB, hO⟩ := hv
  have hts := atoms_spec (ws := ws_ y cc nL ret) B.pre
  have hts : ∀ w ∈ lw_all, w.before _ s = true := fun w h => hts w (List.mem_cons_of_mem _ h)
  have hown : s.vm.findClass own = some m.cls := by rw [← ho]; exact findClass_of_methodNamed B.named
  have hin : meth.name = y.name := (name_of_methodNamed B.named B.method).1
  subst hsz
  have hl := lv_entry av (n := nL) hlen
  rw [lg_entry_eq]
  refine body p e s m _ below meth c (kA bs s.heap.size) _ s.heap ⟨B.exec, B.bytes, B.returns, hml, hown, hts, B.notSynchronized, hG, fun q h => Or.inr h, ?_⟩ hin ⟨hO.weaken fun q hq _ => Or.inl (List.mem_map.mpr ⟨q, hq, rfl⟩), va_S.rf⟩ hl
  intro q hq
  rcases hq with hq | hq
  · obtain ⟨z, hz, rfl⟩ := List.mem_map.mp hq
    exact hO.2.2 z hz
  · omega
theorem KM.weaken {l : Launch} {y : MethodName} {cc : ByteArray} {nL : Nat} {ret : Option FieldType} {fr lo mc ms : Nat} {G : KG} {av : List Value} {bs : List va_W} {Qp Qp' : Option Value → List va_W → Prop} (h : KM l y cc nL ret fr lo mc ms G av bs Qp) (hq : ∀ v b, Qp v b → Qp' v b) : KM l y cc nL ret fr lo mc ms G av bs Qp' := by
  intro sz p e ha hc hk s m args below hf happ hP hK
  obtain ⟨n, o, h1, h2, h3, ⟨⟨v, bs', g1, g2, g3⟩, g4⟩, g5⟩ := h sz p e ha hc hk s m args below hf happ hP hK
  exact ⟨n, o, h1, h2, h3, ⟨⟨v, bs', g1, hq _ _ g2, g3⟩, g4⟩, g5⟩
section KROWS
variable {p : Program} {l : Launch} {e : Env} {R : Room} {s : State} {m : MethodId} {args : Array Value} {below : List Frame} {meth : Method} {c : Code} {H : Heap} {locs : List Loc} {cells slots : Nat} {Q : State → Prop}
variable {cc : ByteArray} {nL : Nat} {ret : Option FieldType} {own : String} {G : KG} {A : Nat → Prop} {bs bs' : List va_W} {pc : Nat} {ls : Array Slot} {rest : List Value} {a : Nat}
theorem kC.K (hc : kC p s m args meth c cc nL ret own G A) : va_K G.1 kCL (kTY G) s := hc.2.2.2.2.2.2.2.1.1
theorem kC.w (hc : kC p s m args meth c cc nL ret own G A) {w : Cond} (h : w ∈ lw_all) : w.before args s = true := hc.2.2.2.2.2.1 w h
theorem kC.hown (hc : kC p s m args meth c cc nL ret own G A) : s.vm.findClass own = some m.cls := hc.2.2.2.2.1
theorem kC.ws (hc : kC p s m args meth c cc nL ret own G A) : ∀ w ∈ lw_all, w.before args s = true := hc.2.2.2.2.2.1
theorem kC.nw (hc : kC p s m args meth c cc nL ret own G A) {w : Cond} (h : w ∈ lw_tbl) (hk : kNest w = true) : va_Nw w s := hc.2.2.2.2.2.2.2.1.2.1 w h hk
theorem kC.hA (hc : kC p s m args meth c cc nL ret own G A) : ∀ q : Nat, s.heap.size ≤ q → A q := hc.2.2.2.2.2.2.2.2.1
/-- a computed number, told otherwise -/
theorem k_top {x : Int32} (y : Int32) (h : x = y) (k : W p l e R s m args below meth c H locs cells slots Q (F0 m pc ls (.int y :: rest))) : W p l e R s m args below meth c H locs cells slots Q (F0 m pc ls (.int x :: rest)) := by rw [h]; exact k
theorem k_get (hc : kC p s m args meth c cc nL ret own G A) (hO : kW G s A bs H locs) {ref C : String} {T : u_T} {N ci index : Nat} (hin : ∀ w ∈ u_ws C T N, w ∈ lw_all) (i j : Nat) {blk : va_W} {fs : List Value} (h1 : bs[i]? = some blk) (h2 : blk[j]? = some (a, .inr (ci, fs))) (hcl : kCL[ci]? = some (C, T, N)) (k : Nat) (hk : k < N) (hlink : Cond.fieldLink own index ref (T k).2.1 (T k).2.2.1 ∈ lw_all) (hsame : ∀ x, s.fieldFound? (T k).1 (T k).2.1 (T k).2.2.1 = some x → s.fieldFound? ref (T k).2.1 (T k).2.2.1 = some x) {v : Value} (hv : fs[k]? = some v) (hdg : decode cc pc = .ok (.getfield index, 3))
    (kk : W p l e R s m args below meth c H locs cells slots Q (F0 m (pc + 3) ls (v :: rest))) : W p l e R s m args below meth c H locs cells slots Q (F0 m pc ls (.ref a :: rest)) :=
  va_get hc.1 hc.2.1 hc.ws hin hc.hown hc.K hO.1.P _ (fl_get h1 h2) hcl k hk (hc.w hlink) hsame hv hdg kk
theorem k_getN (hc : kC p s m args meth c cc nL ret own G A) (hO : kW G s A bs H locs) {ref C host : String} {T : u_T} {N ci index : Nat} (hin : ∀ w ∈ u_ws C T N, w ∈ lw_all) (i j : Nat) {blk : va_W} {fs : List Value} (h1 : bs[i]? = some blk) (h2 : blk[j]? = some (a, .inr (ci, fs))) (hcl : kCL[ci]? = some (C, T, N)) (k : Nat) (hk : k < N) (hlink : Cond.fieldLinkNest own index ref (T k).2.1 (T k).2.2.1 host ∈ lw_tbl) (hsame : ∀ x, s.fieldFound? (T k).1 (T k).2.1 (T k).2.2.1 = some x → s.fieldFound? ref (T k).2.1 (T k).2.2.1 = some x) {v : Value} (hv : fs[k]? = some v) (hdg : decode cc pc = .ok (.getfield index, 3))
    (kk : W p l e R s m args below meth c H locs cells slots Q (F0 m (pc + 3) ls (v :: rest))) : W p l e R s m args below meth c H locs cells slots Q (F0 m pc ls (.ref a :: rest)) :=
  va_getN hc.1 hc.2.1 hc.ws hin hc.hown hc.K hO.1.P _ (fl_get h1 h2) hcl k hk ((hc.nw hlink rfl).use rfl) hsame hv hdg kk
theorem kW.set (hO : kW G s A bs H locs) {i j : Nat} {blk : va_W} {x y : Nat × va_E} {H1 : Heap} {locs1 : List Loc} (h1 : bs[i]? = some blk) (h2 : blk[j]? = some x) (hP : va_P G.1 kCL (bs.flatten.set ((bs.take i).flatten.length + j) y) H1) (hD : va_D A (bs.flatten.set ((bs.take i).flatten.length + j) y)) (hS : va_S A s.heap H1 locs1) (hbs : bs.set i (blk.set j y) = bs') : kW G s A bs' H1 locs1 := by
  have e := fl_set (x := y) h1 (List.getElem?_eq_some_iff.mp h2).1
  rw [e, hbs] at hP hD
  exact ⟨kO.of hP hD, hS⟩
theorem k_put (hc : kC p s m args meth c cc nL ret own G A) (hO : kW G s A bs H locs) {ref C : String} {T : u_T} {N ci index : Nat} (hin : ∀ w ∈ u_ws C T N, w ∈ lw_all) (ty0 : Nat → FieldType) (hty : ∀ k, k < N → parseFieldDescriptor (T k).2.2.1 = some (ty0 k)) (hnm : ∀ a, a < N → ∀ b, b < N → a ≠ b → (T a).2.1 ≠ (T b).2.1) (i j : Nat) {blk : va_W} {fs : List Value} (h1 : bs[i]? = some blk) (h2 : blk[j]? = some (a, .inr (ci, fs))) (hcl : kCL[ci]? = some (C, T, N)) (k : Nat) (hk : k < N) (hlink : Cond.fieldLink own index ref (T k).2.1 (T k).2.2.1 ∈ lw_all) (hsame : ∀ x, s.fieldFound? (T k).1 (T k).2.1 (T k).2.2.1 = some x → s.fieldFound? ref (T k).2.1 (T k).2.2.1 = some x) (hfin : (T k).2.2.2 = false) {v : Value} (hn : narrow (ty0 k) v = v) (hfit : fits (ty0 k) v = true) (hl : k < fs.length) (hbs : bs.set i (blk.set j (a, .inr (ci, fs.set k v))) = bs')
    (hdg : decode cc pc = .ok (.putfield index, 3)) (kk : ∀ (H1 : Heap) (locs1 : List Loc), kW G s A bs' H1 locs1 → W p l e R s m args below meth c H1 locs1 cells slots Q (F0 m (pc + 3) ls rest)) : W p l e R s m args below meth c H locs cells slots Q (F0 m pc ls (v :: .ref a :: rest)) :=
  va_put hc.1 hc.2.1 hc.ws hin ty0 hty hnm hc.hown hc.K hO.1.P hO.1.D hO.2 _ (fl_get h1 h2) hcl k hk (hc.w hlink) hsame hfin (hty k hk) hn hfit hl hdg fun H1 locs1 hP hD hS => kk H1 locs1 (hO.set h1 h2 hP hD hS hbs)
theorem k_putN (hc : kC p s m args meth c cc nL ret own G A) (hO : kW G s A bs H locs) {ref C host : String} {T : u_T} {N ci index : Nat} (hin : ∀ w ∈ u_ws C T N, w ∈ lw_all) (ty0 : Nat → FieldType) (hty : ∀ k, k < N → parseFieldDescriptor (T k).2.2.1 = some (ty0 k)) (hnm : ∀ a, a < N → ∀ b, b < N → a ≠ b → (T a).2.1 ≠ (T b).2.1) (i j : Nat) {blk : va_W} {fs : List Value} (h1 : bs[i]? = some blk) (h2 : blk[j]? = some (a, .inr (ci, fs))) (hcl : kCL[ci]? = some (C, T, N)) (k : Nat) (hk : k < N) (hlink : Cond.fieldLinkNest own index ref (T k).2.1 (T k).2.2.1 host ∈ lw_tbl) (hsame : ∀ x, s.fieldFound? (T k).1 (T k).2.1 (T k).2.2.1 = some x → s.fieldFound? ref (T k).2.1 (T k).2.2.1 = some x) (hfin : (T k).2.2.2 = false) {v : Value} (hn : narrow (ty0 k) v = v) (hfit : fits (ty0 k) v = true) (hl : k < fs.length) (hbs : bs.set i (blk.set j (a, .inr (ci, fs.set k v))) = bs')
    (hdg : decode cc pc = .ok (.putfield index, 3)) (kk : ∀ (H1 : Heap) (locs1 : List Loc), kW G s A bs' H1 locs1 → W p l e R s m args below meth c H1 locs1 cells slots Q (F0 m (pc + 3) ls rest)) : W p l e R s m args below meth c H locs cells slots Q (F0 m pc ls (v :: .ref a :: rest)) :=
  va_putN hc.1 hc.2.1 hc.ws hin ty0 hty hnm hc.hown hc.K hO.1.P hO.1.D hO.2 _ (fl_get h1 h2) hcl k hk ((hc.nw hlink rfl).use rfl) hsame hfin (hty k hk) hn hfit hl hdg fun H1 locs1 hP hD hS => kk H1 locs1 (hO.set h1 h2 hP hD hS hbs)
theorem k_putF (hc : kC p s m args meth c cc nL ret own G A) (hO : kW G s A bs H locs) {ref C : String} {T : u_T} {N ci index : Nat} (hin : ∀ w ∈ u_ws C T N, w ∈ lw_all) (ty0 : Nat → FieldType) (hty : ∀ k, k < N → parseFieldDescriptor (T k).2.2.1 = some (ty0 k)) (hnm : ∀ a, a < N → ∀ b, b < N → a ≠ b → (T a).2.1 ≠ (T b).2.1) (i j : Nat) {blk : va_W} {fs : List Value} (h1 : bs[i]? = some blk) (h2 : blk[j]? = some (a, .inr (ci, fs))) (hcl : kCL[ci]? = some (C, T, N)) (k : Nat) (hk : k < N) (hlink : Cond.fieldLink own index ref (T k).2.1 (T k).2.2.1 ∈ lw_all) (hsame : ∀ x, s.fieldFound? (T k).1 (T k).2.1 (T k).2.2.1 = some x → s.fieldFound? ref (T k).2.1 (T k).2.2.1 = some x) (hfin : (T k).2.2.2 = true) (hin2 : meth.name = "<init>") (hdecl : (T k).1 = own) {v : Value} (hn : narrow (ty0 k) v = v) (hfit : fits (ty0 k) v = true) (hl : k < fs.length) (hbs : bs.set i (blk.set j (a, .inr (ci, fs.set k v))) = bs')
    (hdg : decode cc pc = .ok (.putfield index, 3)) (kk : ∀ (H1 : Heap) (locs1 : List Loc), kW G s A bs' H1 locs1 → W p l e R s m args below meth c H1 locs1 cells slots Q (F0 m (pc + 3) ls rest)) : W p l e R s m args below meth c H locs cells slots Q (F0 m pc ls (v :: .ref a :: rest)) :=
  va_putF hc.1 hc.2.1 hc.ws hin ty0 hty hnm hc.hown hc.K hO.1.P hO.1.D hO.2 _ (fl_get h1 h2) hcl k hk (hc.w hlink) hsame hfin hin2 hdecl (hty k hk) hn hfit hl hdg fun H1 locs1 hP hD hS => kk H1 locs1 (hO.set h1 h2 hP hD hS hbs)
/-- arrays of whole numbers: the index is a natural k -/
theorem k_iald (hc : kC p s m args meth c cc nL ret own G A) (hO : kW G s A bs H locs) (i j : Nat) {blk : va_W} {n : Nat} {f : Nat → Int32} (h1 : bs[i]? = some blk) (h2 : blk[j]? = some (a, .inl (G.2.1 0, n, .inl f))) {x : Int32} (k : Nat) (hx : x = nI k) (hk : k < n) (hn : n < 2 ^ 31) (hdg : decode cc pc = .ok (.iaload, 1))
    (kk : W p l e R s m args below meth c H locs cells slots Q (F0 m (pc + 1) ls (.int (f k) :: rest))) : W p l e R s m args below meth c H locs cells slots Q (F0 m pc ls (.int x :: .ref a :: rest)) := by
  subst hx
  refine va_iald hc.1 hc.2.1 hc.K hO.1.P _ 0 (fl_get h1 h2) rfl (vp_in_nI hk hn) hdg ?_
  rw [nI_clamp (by omega)]
  exact kk
theorem k_zald (hc : kC p s m args meth c cc nL ret own G A) (hO : kW G s A bs H locs) (i j : Nat) {blk : va_W} {n : Nat} {f : Nat → Int32} (h1 : bs[i]? = some blk) (h2 : blk[j]? = some (a, .inl (G.2.1 1, n, .inl f))) {x : Int32} (k : Nat) (hx : x = nI k) (hk : k < n) (hn : n < 2 ^ 31) (hdg : decode cc pc = .ok (.baload, 1))
    (kk : W p l e R s m args below meth c H locs cells slots Q (F0 m (pc + 1) ls (.int (f k) :: rest))) : W p l e R s m args below meth c H locs cells slots Q (F0 m pc ls (.int x :: .ref a :: rest)) := by
  subst hx
  refine va_zald hc.1 hc.2.1 hc.K hO.1.P _ 1 (fl_get h1 h2) rfl (vp_in_nI hk hn) hdg ?_
  rw [nI_clamp (by omega)]
  exact kk
theorem k_cald (hc : kC p s m args meth c cc nL ret own G A) (hO : kW G s A bs H locs) (i j : Nat) {blk : va_W} {n : Nat} {f : Nat → Int32} (h1 : bs[i]? = some blk) (h2 : blk[j]? = some (a, .inl (G.2.1 2, n, .inl f))) {x : Int32} (k : Nat) (hx : x = nI k) (hk : k < n) (hn : n < 2 ^ 31) (hdg : decode cc pc = .ok (.caload, 1))
    (kk : W p l e R s m args below meth c H locs cells slots Q (F0 m (pc + 1) ls (.int (f k) :: rest))) : W p l e R s m args below meth c H locs cells slots Q (F0 m pc ls (.int x :: .ref a :: rest)) := by
  subst hx
  refine va_cald hc.1 hc.2.1 hc.K hO.1.P _ 2 (fl_get h1 h2) rfl (vp_in_nI hk hn) hdg ?_
  rw [nI_clamp (by omega)]
  exact kk
theorem k_bald (hc : kC p s m args meth c cc nL ret own G A) (hO : kW G s A bs H locs) (i j : Nat) {blk : va_W} {n : Nat} {f : Nat → Int32} (h1 : bs[i]? = some blk) (h2 : blk[j]? = some (a, .inl (G.2.1 3, n, .inl f))) {x : Int32} (k : Nat) (hx : x = nI k) (hk : k < n) (hn : n < 2 ^ 31) (hdg : decode cc pc = .ok (.baload, 1))
    (kk : W p l e R s m args below meth c H locs cells slots Q (F0 m (pc + 1) ls (.int (f k) :: rest))) : W p l e R s m args below meth c H locs cells slots Q (F0 m pc ls (.int x :: .ref a :: rest)) := by
  subst hx
  refine va_bald hc.1 hc.2.1 hc.K hO.1.P _ 3 (fl_get h1 h2) rfl (vp_in_nI hk hn) hdg ?_
  rw [nI_clamp (by omega)]
  exact kk
theorem k_aald (hc : kC p s m args meth c cc nL ret own G A) (hO : kW G s A bs H locs) (i j : Nat) {blk : va_W} {n : Nat} {f : Nat → Option Nat} (h1 : bs[i]? = some blk) (h2 : blk[j]? = some (a, .inl (G.2.1 4, n, .inr (.inr (.inr (.inr f)))))) {x : Int32} (k : Nat) (hx : x = nI k) (hk : k < n) (hn : n < 2 ^ 31) (hdg : decode cc pc = .ok (.aaload, 1))
    (kk : W p l e R s m args below meth c H locs cells slots Q (F0 m (pc + 1) ls (va_rf (f k) :: rest))) : W p l e R s m args below meth c H locs cells slots Q (F0 m pc ls (.int x :: .ref a :: rest)) := by
  subst hx
  refine va_aldq hc.1 hc.2.1 hc.K hO.1.P _ 4 (fl_get h1 h2) rfl (vp_in_nI hk hn) hdg ?_
  rw [nI_clamp (by omega)]
  exact kk
theorem k_iast (hc : kC p s m args meth c cc nL ret own G A) (hO : kW G s A bs H locs) (i j : Nat) {blk : va_W} {n : Nat} {f : Nat → Int32} (h1 : bs[i]? = some blk) (h2 : blk[j]? = some (a, .inl (G.2.1 0, n, .inl f))) {x v : Int32} (k : Nat) (hx : x = nI k) (hk : k < n) (hn : n < 2 ^ 31) (hbs : bs.set i (blk.set j (a, .inl (G.2.1 0, n, .inl (upd f k v)))) = bs') (hdg : decode cc pc = .ok (.iastore, 1))
    (kk : ∀ (H1 : Heap) (locs1 : List Loc), kW G s A bs' H1 locs1 → W p l e R s m args below meth c H1 locs1 cells slots Q (F0 m (pc + 1) ls rest)) : W p l e R s m args below meth c H locs cells slots Q (F0 m pc ls (.int v :: .int x :: .ref a :: rest)) := by
  subst hx
  refine va_iast hc.1 hc.2.1 hc.K hO.1.P hO.1.D hO.2 _ 0 (fl_get h1 h2) rfl (vp_in_nI hk hn) hdg fun H1 locs1 hP hD hS => ?_
  rw [nI_clamp (by omega)] at hP hD
  exact kk H1 locs1 (hO.set h1 h2 hP hD hS hbs)
theorem k_zast (hc : kC p s m args meth c cc nL ret own G A) (hO : kW G s A bs H locs) (i j : Nat) {blk : va_W} {n : Nat} {f : Nat → Int32} (h1 : bs[i]? = some blk) (h2 : blk[j]? = some (a, .inl (G.2.1 1, n, .inl f))) {x v : Int32} (k : Nat) (hx : x = nI k) (hk : k < n) (hn : n < 2 ^ 31) (hv : vp_nar .boolean v = v) (hbs : bs.set i (blk.set j (a, .inl (G.2.1 1, n, .inl (upd f k v)))) = bs') (hdg : decode cc pc = .ok (.bastore, 1))
    (kk : ∀ (H1 : Heap) (locs1 : List Loc), kW G s A bs' H1 locs1 → W p l e R s m args below meth c H1 locs1 cells slots Q (F0 m (pc + 1) ls rest)) : W p l e R s m args below meth c H locs cells slots Q (F0 m pc ls (.int v :: .int x :: .ref a :: rest)) := by
  subst hx
  refine va_zast hc.1 hc.2.1 hc.K hO.1.P hO.1.D hO.2 _ 1 (fl_get h1 h2) rfl (vp_in_nI hk hn) hdg fun H1 locs1 hP hD hS => ?_
  rw [nI_clamp (by omega), hv] at hP hD
  exact kk H1 locs1 (hO.set h1 h2 hP hD hS hbs)
theorem k_cast (hc : kC p s m args meth c cc nL ret own G A) (hO : kW G s A bs H locs) (i j : Nat) {blk : va_W} {n : Nat} {f : Nat → Int32} (h1 : bs[i]? = some blk) (h2 : blk[j]? = some (a, .inl (G.2.1 2, n, .inl f))) {x v : Int32} (k : Nat) (hx : x = nI k) (hk : k < n) (hn : n < 2 ^ 31) (hv : vp_nar .char v = v) (hbs : bs.set i (blk.set j (a, .inl (G.2.1 2, n, .inl (upd f k v)))) = bs') (hdg : decode cc pc = .ok (.castore, 1))
    (kk : ∀ (H1 : Heap) (locs1 : List Loc), kW G s A bs' H1 locs1 → W p l e R s m args below meth c H1 locs1 cells slots Q (F0 m (pc + 1) ls rest)) : W p l e R s m args below meth c H locs cells slots Q (F0 m pc ls (.int v :: .int x :: .ref a :: rest)) := by
  subst hx
  refine va_cast hc.1 hc.2.1 hc.K hO.1.P hO.1.D hO.2 _ 2 (fl_get h1 h2) rfl (vp_in_nI hk hn) hdg fun H1 locs1 hP hD hS => ?_
  rw [nI_clamp (by omega), hv] at hP hD
  exact kk H1 locs1 (hO.set h1 h2 hP hD hS hbs)
theorem k_bast (hc : kC p s m args meth c cc nL ret own G A) (hO : kW G s A bs H locs) (i j : Nat) {blk : va_W} {n : Nat} {f : Nat → Int32} (h1 : bs[i]? = some blk) (h2 : blk[j]? = some (a, .inl (G.2.1 3, n, .inl f))) {x v : Int32} (k : Nat) (hx : x = nI k) (hk : k < n) (hn : n < 2 ^ 31) (hv : vp_nar .byte v = v) (hbs : bs.set i (blk.set j (a, .inl (G.2.1 3, n, .inl (upd f k v)))) = bs') (hdg : decode cc pc = .ok (.bastore, 1))
    (kk : ∀ (H1 : Heap) (locs1 : List Loc), kW G s A bs' H1 locs1 → W p l e R s m args below meth c H1 locs1 cells slots Q (F0 m (pc + 1) ls rest)) : W p l e R s m args below meth c H locs cells slots Q (F0 m pc ls (.int v :: .int x :: .ref a :: rest)) := by
  subst hx
  refine va_bast hc.1 hc.2.1 hc.K hO.1.P hO.1.D hO.2 _ 3 (fl_get h1 h2) rfl (vp_in_nI hk hn) hdg fun H1 locs1 hP hD hS => ?_
  rw [nI_clamp (by omega), hv] at hP hD
  exact kk H1 locs1 (hO.set h1 h2 hP hD hS hbs)
theorem k_alen (hc : kC p s m args meth c cc nL ret own G A) (hO : kW G s A bs H locs) (i j t : Nat) {blk : va_W} {ty : FieldType} {cA : ClassId} {x : vp_A} (h1 : bs[i]? = some blk) (h2 : blk[j]? = some (a, .inl (cA, x))) (ht : (kTY G)[t]? = some (cA, ty)) (hdg : decode cc pc = .ok (.arraylength, 1))
    (kk : W p l e R s m args below meth c H locs cells slots Q (F0 m (pc + 1) ls (.int (nI x.1) :: rest))) : W p l e R s m args below meth c H locs cells slots Q (F0 m pc ls (.ref a :: rest)) :=
  va_alen hc.1 hc.2.1 hc.K hO.1.P _ t (fl_get h1 h2) ht rfl hdg kk
/-- new objects and arrays: one block more, at the end -/
theorem k_new (hc : kC p s m args meth c cc nL ret own G A) (hO : kW G s A bs H locs) {C : String} {T : u_T} {N ci index : Nat} (hin : ∀ w ∈ u_ws C T N, w ∈ lw_all) (ty : Nat → FieldType) (hty : ∀ k, k < N → parseFieldDescriptor (T k).2.2.1 = some (ty k)) (hcl0 : Cond.classLink own index C ∈ lw_all) (hinst : Cond.instantiable C N ∈ lw_all) (hini : Cond.initialized C ∈ lw_all) (hcl : kCL[ci]? = some (C, T, N)) {fs : List Value} (hfs : ∀ j, j < N → defaultValue (ty j) = vp_V fs j) (hcells : cells + 1 ≤ R.cells) (hslots : slots + N ≤ R.slots) (hdg : decode cc pc = .ok (.new index, 3))
    (kk : ∀ (q : Nat) (H1 : Heap), kW G s A (bs ++ [[(q, .inr (ci, fs))]]) H1 locs → W p l e R s m args below meth c H1 locs (cells + 1) (slots + N) Q (F0 m (pc + 3) ls (.ref q :: rest))) : W p l e R s m args below meth c H locs cells slots Q (F0 m pc ls rest) := by
  refine va_new hc.1 hc.2.1 hc.ws hin ty hty hc.hown (hc.w hcl0) (hc.w hinst) (hc.w hini) hc.K hO.1.P hO.1.D hO.2 hc.hA hcl hfs hcells hslots hdg fun q H1 hP hD hS => kk q H1 ⟨kO.of ?_ ?_, hS⟩
  · rw [List.flatten_append]; exact hP
  · rw [List.flatten_append]; exact hD
theorem k_newa (hc : kC p s m args meth c cc nL ret own G A) (hO : kW G s A bs H locs) {atype : ArrayType} (t : Nat) {ty : FieldType} {cA : ClassId} (hty : newarray.typeOf atype = ty) (ht : (kTY G)[t]? = some (cA, ty)) (hprim : ∀ C, ty ≠ .object C) (harr : Cond.arrayClass (newarray.typeOf atype) ∈ lw_all) {n : Int32} {N : Nat} {a0 : vp_A} (ha : vp_cell cA a0 = arrV cA N (fun _ => defaultValue ty)) (hn : n = nI N) (hb : N < 65536) (hbytes : N * componentBytes ty ≤ 536870912) (hcells : cells + 1 ≤ R.cells) (hslots : slots + N ≤ R.slots) (hdg : decode cc pc = .ok (.newarray atype, 2))
    (kk : ∀ (q : Nat) (H1 : Heap), kW G s A (bs ++ [[(q, .inl (cA, a0))]]) H1 locs → W p l e R s m args below meth c H1 locs (cells + 1) (slots + N) Q (F0 m (pc + 2) ls (.ref q :: rest))) : W p l e R s m args below meth c H locs cells slots Q (F0 m pc ls (.int n :: rest)) := by
  subst hn
  have hRA := (hc.K.2 t _ ht).2
  have hfc : s.vm.findClass ("[" ++ ty.toString) = some cA := by
    cases ty <;> first | exact hRA | exact absurd rfl (hprim _)
  refine va_newaK hc.1 hc.2.1 (hc.w harr) rfl hdg rfl (nI_pos (by omega)) (nI_clamp (by omega)) (by rw [hty]; exact hbytes) hcells hslots rfl fun H' cA' e1 e2 e3 _ e4 => ?_
  rw [hty, hfc] at e4
  cases e4
  refine kk H.size H' ⟨kO.of ?_ ?_, ?_⟩
  · rw [List.flatten_append]
    refine va_P.app (hO.1.P.kept fun k q hk => e3 _ (hO.1.P k q hk).lt) ?_
    intro k q hk
    match k, hk with
    | 0, hk =>
      cases hk
      show H'[H.size]? = some (vp_cell _ _)
      rw [e1, hty, ha]
    | k + 1, hk => simp at hk
  · rw [List.flatten_append]
    exact hO.1.D.push hO.1.P rfl (hc.hA _ hO.2.1)
  · exact ⟨by rw [e2]; exact Nat.le_succ_of_le hO.2.1, fun q h1 h2 => by rw [e3 q (Nat.lt_of_lt_of_le h1 hO.2.1)]; exact hO.2.2.1 q h1 h2, hO.2.2.2⟩
theorem k_newq (hc : kC p s m args meth c cc nL ret own G A) (hO : kW G s A bs H locs) {index : Nat} (hcl0 : Cond.classLink own index "java/lang/Object" ∈ lw_all) {n : Int32} {N : Nat} (hn : n = nI N) (hb : N < 65536) (hcells : cells + 1 ≤ R.cells) (hslots : slots + N ≤ R.slots) (hdg : decode cc pc = .ok (.anewarray index, 3))
    (kk : ∀ (q : Nat) (H1 : Heap), kW G s A (bs ++ [[(q, .inl (G.2.1 4, N, .inr (.inr (.inr (.inr (fun _ => none))))))]]) H1 locs → W p l e R s m args below meth c H1 locs (cells + 1) (slots + N) Q (F0 m (pc + 3) ls (.ref q :: rest))) : W p l e R s m args below meth c H locs cells slots Q (F0 m pc ls (.int n :: rest)) := by
  subst hn
  have h4 := (hc.K.2 4 _ rfl).2
  refine va_newq (C := "java/lang/Object") hc.1 hc.2.1 hc.hown (hc.w hcl0) hc.2.2.2.2.2.2.2.1.2.2.2.1 hc.K hO.1.P hO.1.D hO.2 hc.hA (nI_pos (by omega)) (nI_clamp (by omega)) (by omega) hcells hslots hdg fun q cA H1 hK hP hD hS => ?_
  have h5 := (hK.2 5 _ rfl).2
  have e : cA = G.2.1 4 := by
    obtain ⟨-, -, -, -, -, x4⟩ := h4
    obtain ⟨-, -, -, -, -, x5⟩ := h5
    exact Option.some.inj (x5.symm.trans x4)
  subst e
  refine kk q H1 ⟨kO.of ?_ ?_, hS⟩
  · rw [List.flatten_append]; exact hP
  · rw [List.flatten_append]; exact hD
/-- ends -/
theorem k_iret (hc : kC p s m args meth c cc nL (some .int) own G A) (hO : kW G s A bs H locs) {Qp : Option Value → List va_W → Prop} {v : Int32} (hq : Qp (some (.int v)) bs) (hdg : decode cc pc = .ok (.ireturn, 1)) : W p l e R s m args below meth c H locs cells slots (KQ G A Qp below args s cells slots) (F0 m pc ls [.int v]) :=
  W.iret hc.1 hc.2.1 hc.2.2.1 (fun t ht _ => ⟨⟨some (.int v), bs, rfl, hq, by rw [ht]; exact hO.1⟩, hO.2.F ht⟩) hO.2.2.2 hdg hc.2.2.2.2.2.2.1
theorem k_zret {ty : FieldType} (hc : kC p s m args meth c cc nL (some ty) own G A) (hO : kW G s A bs H locs) {Qp : Option Value → List va_W → Prop} {v : Int32} (hn : narrow ty (.int v) = .int v) (hq : Qp (some (.int v)) bs) (hdg : decode cc pc = .ok (.ireturn, 1)) : W p l e R s m args below meth c H locs cells slots (KQ G A Qp below args s cells slots) (F0 m pc ls [.int v]) :=
  W.zret hc.1 hc.2.1 hc.2.2.1 hn (fun t ht _ => ⟨⟨some (.int v), bs, rfl, hq, by rw [ht]; exact hO.1⟩, hO.2.F ht⟩) hO.2.2.2 hdg hc.2.2.2.2.2.2.1
theorem k_vret (hc : kC p s m args meth c cc nL none own G A) (hO : kW G s A bs H locs) {Qp : Option Value → List va_W → Prop} (hq : Qp none bs) (hdg : decode cc pc = .ok (.return_, 1)) : W p l e R s m args below meth c H locs cells slots (KQ G A Qp below args s cells slots) (F0 m pc ls []) :=
  W.vret hc.1 hc.2.1 hc.2.2.1 (fun t ht _ => ⟨⟨none, bs, rfl, hq, by rw [ht]; exact hO.1⟩, hO.2.F ht⟩) hO.2.2.2 hdg hc.2.2.2.2.2.2.1
theorem k_aret {rt : FieldType} (hc : kC p s m args meth c cc nL (some rt) own G A) (hO : kW G s A bs H locs) {Qp : Option Value → List va_W → Prop} {v : Value} (hrt : (∃ n, rt = .object n) ∨ ∃ t, rt = .array t) (hv : v = .null ∨ ∃ a, v = .ref a) (hq : Qp (some v) bs) (hdg : decode cc pc = .ok (.areturn, 1)) : W p l e R s m args below meth c H locs cells slots (KQ G A Qp below args s cells slots) (F0 m pc ls [v]) :=
  W.aret hc.1 hc.2.1 hc.2.2.1 hrt hv (fun t ht _ => ⟨⟨some v, bs, rfl, hq, by rw [ht]; exact hO.1⟩, hO.2.F ht⟩) hO.2.2.2 hdg hc.2.2.2.2.2.2.1
/-- room that isn't used -/
theorem k_widen {g : JFrame} (k n : Nat) (h1 : cells ≤ k) (h2 : slots ≤ n) (kk : W p l e R s m args below meth c H locs k n Q g) : W p l e R s m args below meth c H locs cells slots Q g := W.widen h1 h2 kk
section KGO
variable {lv : List (Nat × Value)} {y : MethodName} {bytes : ByteArray} {maxL fr lo mc ms index : Nat} {retc : Option FieldType} {av As st0 : List Value} {bsC bsR : List va_W} {Qp : Option Value → List va_W → Prop} {b : Nat}
theorem k_pre (hc : kC p s m args meth c cc nL ret own G A) (hO : kW G s A bs H locs) (hp : kO G A (bsC ++ bsR) H) : ∀ U : State, U.heap = H → s.WarmedH U.vm → kPc G av bsC H.size av.toArray U := by
  intro U hU hW
  obtain ⟨-, -, -, -, -, -, -, hG, hA, hB⟩ := hc
  refine ⟨rfl, by rw [hU], ?_, ?_, ?_⟩
  · rw [hU]
    exact hG.warm hW fun q h1 h2 => hO.2.2.1 q h1 fun z => h2 (hB q z)
  · rw [hU]
    exact Nat.le_trans (hB _ (hA _ (Nat.le_refl _))) hO.2.1
  · rw [hU]
    exact hp.cut.weaken fun q _ h => hB _ h
theorem k_in (hc : kC p s m args meth c cc nL ret own G A) (hO : kW G s A bs H locs) (hp : kO G A (bsC ++ bsR) H) {q : Nat} (h : kA bsC H.size q) : A q := by
  rcases h with h | h
  · obtain ⟨z, hz, rfl⟩ := List.mem_map.mp h
    exact hp.2.2 z (by rw [List.flatten_append]; exact List.mem_append_left _ hz)
  · exact hc.hA q (Nat.le_trans hO.2.1 h)
theorem k_after (hc : kC p s m args meth c cc nL ret own G A) (hO : kW G s A bs H locs) (hp : kO G A (bsC ++ bsR) H) {bs1 : List va_W} {st₀ t : State} {H1 : Heap} {L : List Loc} (h0 : st₀.heap = H) (h1 : t.heap = H1) (hF : va_F (kA bsC H.size) st₀ t) (hb : kO G (kA bsC H.size) bs1 t.heap) (hL : ∀ q ∈ L, kA bsC H.size q.base) : kW G s A (bs1 ++ bsR) H1 (locs ++ L) := by
  obtain ⟨hz, hk⟩ := hF
  subst h1
  rw [h0] at hz hk
  refine ⟨hp.join hk (fun q h => hc.hA q (Nat.le_trans hO.2.1 h)) hb, Nat.le_trans hO.2.1 hz, fun q g1 g2 => ?_, fun q hq => ?_⟩
  · rw [hk q (Nat.lt_of_lt_of_le g1 hO.2.1) fun z => g2 (k_in hc hO hp z)]
    exact hO.2.2.1 q g1 g2
  · rcases List.mem_append.mp hq with h | h
    · exact hO.2.2.2 q h
    · exact k_in hc hO hp (hL q h)
theorem k_go (hc : kC p s m args meth c cc nL ret own G A) (hO : kW G s A bs H locs) (hp : kO G A (bsC ++ bsR) H) {aa : Array Value} (hr : va_Run p l e R s m args below meth c H locs cells slots mc ms (F0 m pc ls st0) rest (kQc G Qp (kA bsC H.size) aa) (kA bsC H.size))
    (kk : ∀ (v : Option Value) (b : List va_W) (H1 : Heap) (locs1 : List Loc), Qp v b → kW G s A (b ++ bsR) H1 locs1 → W p l e R s m args below meth c H1 locs1 (cells + mc) (slots + ms) Q (F0 m (pc + 3) ls (v.toList ++ rest))) : W p l e R s m args below meth c H locs cells slots Q (F0 m pc ls st0) := by
  intro T hT X
  obtain ⟨v, st₀, t, T', L, h0, X', hL, e1, e2, ⟨⟨v', b, hv, hq, hb⟩, hF⟩, st⟩ := hr T hT X
  cases hv
  obtain ⟨t2, a1, b1⟩ := kk v b T'.heap (locs ++ L) hq (k_after hc hO hp h0 e1.symm hF hb hL) T' rfl X'
  exact ⟨t2, st t2 a1, b1⟩
theorem k_go5 (hc : kC p s m args meth c cc nL ret own G A) (hO : kW G s A bs H locs) (hp : kO G A (bsC ++ bsR) H) {aa : Array Value} (hr : va_Run5 p l e R s m args below meth c H locs cells slots mc ms (F0 m pc ls st0) rest (kQc G Qp (kA bsC H.size) aa) (kA bsC H.size))
    (kk : ∀ (v : Option Value) (b : List va_W) (H1 : Heap) (locs1 : List Loc), Qp v b → kW G s A (b ++ bsR) H1 locs1 → W p l e R s m args below meth c H1 locs1 (cells + mc) (slots + ms) Q (F0 m (pc + 5) ls (v.toList ++ rest))) : W p l e R s m args below meth c H locs cells slots Q (F0 m pc ls st0) := by
  intro T hT X
  obtain ⟨v, st₀, t, T', L, h0, X', hL, e1, e2, ⟨⟨v', b, hv, hq, hb⟩, hF⟩, st⟩ := hr T hT X
  cases hv
  obtain ⟨t2, a1, b1⟩ := kk v b T'.heap (locs ++ L) hq (k_after hc hO hp h0 e1.symm hF hb hL) T' rfl X'
  exact ⟨t2, st t2 a1, b1⟩
/-- the receiver: an object among the callee's blocks -/
def kRecv (bsC : List va_W) (b ci : Nat) : Prop := ∃ (fs : List Value), (b, (.inr (ci, fs) : va_E)) ∈ bsC.flatten
theorem kRecv.of {bsC : List va_W} {b ci : Nat} {fs : List Value} (i j : Nat) {blk : va_W} (h1 : bsC[i]? = some blk) (h2 : blk[j]? = some (b, .inr (ci, fs))) : kRecv bsC b ci := ⟨fs, List.mem_of_getElem? (fl_get h1 h2)⟩
theorem kRecv.recv (hc : kC p s m args meth c cc nL ret own G A) (hp : kO G A (bsC ++ bsR) H) {ci : Nat} {q : vw_C} (hcl : kCL[ci]? = some q) (h : kRecv bsC b ci) : ∃ cell : Cell, H[b]? = some cell ∧ cell.vm.isStatics = false ∧ s.vm.findClass q.1 = some cell.cls := by
  obtain ⟨fs, hm⟩ := h
  obtain ⟨k, hk⟩ := List.getElem?_of_mem hm
  exact va_recv hc.K hp.cut.P hcl hk
/-- calls: the callee's blocks bsC, the rest bsR -/
theorem k_callV (hc : kC p s m args meth c cc nL ret own G A) (hO : kW G s A bs H locs) (hl : lv_has ls nL lv) (hM : KM l y bytes maxL retc fr lo mc ms G (.ref b :: As) bsC Qp) {C : String} (n : Nat) (w1 : Cond.methodLink own index y ∈ lw_all) (w2 : Cond.instanceMethod y ∈ lw_all) (w3 : Cond.selects C y y ∈ lw_all) (w4 : Cond.initialized C ∈ lw_all) (w5 : Cond.code y bytes maxL retc ∈ lw_all)
    (hd : y.cls = C ∧ y.cls ≠ "java/lang/invoke/MethodHandle" ∧ y.cls ≠ "java/lang/invoke/VarHandle" ∧ (parseMethodDescriptor y.desc).map (fun d => d.parameters.length) = some n) (hn : As.length = n) (hp : kO G A (bsC ++ bsR) H) {ci : Nat} {q : vw_C} (hcl : kCL[ci]? = some q) (hq : q.1 = C) (hr : kRecv bsC b ci) (hR : fr + 1 ≤ R.frames ∧ 8 + (maxL + 11) + lo ≤ R.locals ∧ cells + mc ≤ R.cells ∧ slots + ms ≤ R.slots) (hst : (rest.map fun v => v.category).sum ≤ 8) (hdg : decode cc pc = .ok (.invokevirtual index, 3)) (hstk : st0 = As.reverse ++ .ref b :: rest)
    (kk : ∀ (v : Option Value) (b : List va_W) (H1 : Heap) (locs1 : List Loc), Qp v b → kW G s A (b ++ bsR) H1 locs1 → W p l e R s m args below meth c H1 locs1 (cells + mc) (slots + ms) Q (F0 m (pc + 3) ls (v.toList ++ rest))) : W p l e R s m args below meth c H locs cells slots Q (F0 m pc ls st0) := by
  subst hstk
  subst hq
  exact k_go hc hO hp (va_runV (As := As) (rest := rest) ⟨hc.1, hc.2.1, hc.2.2.2.1, hc.hown, hc.ws⟩ (hM H.size) (cwV n hc.ws (lw_V w1 w2 w3 w4 w5) rfl rfl rfl hd ⟨hR.1, hR.2.1⟩) ⟨kPc_blind, hr.recv hc hp hcl, k_pre hc hO hp⟩ rfl hn hl.1 rfl (lv_room hst) hdg ⟨hR.2.2.1, hR.2.2.2⟩) kk
theorem k_callS (hc : kC p s m args meth c cc nL ret own G A) (hO : kW G s A bs H locs) (hl : lv_has ls nL lv) (hM : KM l y bytes maxL retc fr lo mc ms G As bsC Qp) (n : Nat) (w1 : Cond.methodLink own index y ∈ lw_all) (w2 : Cond.static y ∈ lw_all) (w4 : Cond.initialized y.cls ∈ lw_all) (w5 : Cond.code y bytes maxL retc ∈ lw_all)
    (hd : y.cls ≠ "java/lang/invoke/MethodHandle" ∧ y.cls ≠ "java/lang/invoke/VarHandle" ∧ (parseMethodDescriptor y.desc).map (fun d => d.parameters.length) = some n) (hn : As.length = n) (hp : kO G A (bsC ++ bsR) H) (hR : fr + 1 ≤ R.frames ∧ 8 + (maxL + 11) + lo ≤ R.locals ∧ cells + mc ≤ R.cells ∧ slots + ms ≤ R.slots) (hst : (rest.map fun v => v.category).sum ≤ 8) (hdg : decode cc pc = .ok (.invokestatic index, 3)) (hstk : st0 = As.reverse ++ rest)
    (kk : ∀ (v : Option Value) (b : List va_W) (H1 : Heap) (locs1 : List Loc), Qp v b → kW G s A (b ++ bsR) H1 locs1 → W p l e R s m args below meth c H1 locs1 (cells + mc) (slots + ms) Q (F0 m (pc + 3) ls (v.toList ++ rest))) : W p l e R s m args below meth c H locs cells slots Q (F0 m pc ls st0) := by
  subst hstk
  exact k_go hc hO hp (va_runS (As := As) (rest := rest) ⟨hc.1, hc.2.1, hc.2.2.2.1, hc.hown, hc.ws⟩ (hM H.size) (va_cwS n hc.ws (lw_S w1 w2 w4 w5) rfl rfl rfl hd ⟨hR.1, hR.2.1⟩) ⟨kPc_blind, k_pre hc hO hp⟩ rfl hn hl.1 rfl (lv_room hst) hdg ⟨hR.2.2.1, hR.2.2.2⟩) kk
theorem k_callI (hc : kC p s m args meth c cc nL ret own G A) (hO : kW G s A bs H locs) (hl : lv_has ls nL lv) (hM : KM l y bytes maxL none fr lo mc ms G (.ref b :: As) bsC Qp) (n : Nat) (w1 : Cond.methodLink own index y ∈ lw_all) (w2 : Cond.instanceMethod y ∈ lw_all) (w4 : Cond.initialized y.cls ∈ lw_all) (w5 : Cond.code y bytes maxL none ∈ lw_all)
    (hd : y.name = "<init>" ∧ y.cls ≠ "java/lang/invoke/MethodHandle" ∧ y.cls ≠ "java/lang/invoke/VarHandle" ∧ (parseMethodDescriptor y.desc).map (fun d => d.parameters.length) = some n) (hn : As.length = n) (hp : kO G A (bsC ++ bsR) H) (hR : fr + 1 ≤ R.frames ∧ 8 + (maxL + 11) + lo ≤ R.locals ∧ cells + mc ≤ R.cells ∧ slots + ms ≤ R.slots) (hst : (rest.map fun v => v.category).sum ≤ 8) (hdg : decode cc pc = .ok (.invokespecial index, 3)) (hstk : st0 = As.reverse ++ .ref b :: rest)
    (kk : ∀ (v : Option Value) (b : List va_W) (H1 : Heap) (locs1 : List Loc), Qp v b → kW G s A (b ++ bsR) H1 locs1 → W p l e R s m args below meth c H1 locs1 (cells + mc) (slots + ms) Q (F0 m (pc + 3) ls (v.toList ++ rest))) : W p l e R s m args below meth c H locs cells slots Q (F0 m pc ls st0) := by
  subst hstk
  exact k_go hc hO hp (va_runI (As := As) (rest := rest) ⟨hc.1, hc.2.1, hc.2.2.2.1, hc.hown, hc.ws⟩ (hM H.size) (cwI n hc.ws (lw_meth w5) rfl rfl rfl (hc.w w4) (hc.w w1) (hc.w w2) hd.1 hd.2 ⟨hR.1, hR.2.1⟩) ⟨kPc_blind, k_pre hc hO hp⟩ rfl hn hl.1 rfl (lv_room hst) hdg ⟨hR.2.2.1, hR.2.2.2⟩) kk
end KGO
end KROWS
/-! rows over naturals and truth values -/
def bI (b : Bool) : Int32 := if b then 1 else 0
theorem bI_t : bI true = 1 := rfl
theorem bI_f : bI false = 0 := rfl
theorem bI_nar (b : Bool) : narrow .boolean (.int (bI b)) = .int (bI b) := by cases b <;> decide +kernel
theorem bI_vnar (b : Bool) : vp_nar .boolean (bI b) = bI b := by cases b <;> decide +kernel
theorem bI_fit (b : Bool) : fits .boolean (.int (bI b)) = true := by cases b <;> decide +kernel
theorem bI_inj {a b : Bool} : bI a = bI b ↔ a = b := by cases a <;> cases b <;> simp [bI]
theorem k_addN {a b : Nat} (c : Nat) (h : a + b = c) : nI a + nI b = nI c := by rw [nI_add, h]
theorem k_mulN {a b : Nat} (c : Nat) (h : a * b = c) : nI a * nI b = nI c := by rw [pk_mul, h]
theorem k_subN {a b : Nat} (c : Nat) (h : a = b + c) : nI a - nI b = nI c := by rw [pk_sub (by omega)]; congr 1; omega
theorem k_inc {a : Nat} (c : Nat) (h : a + 1 = c) : nI a + Int32.ofInt 1 = nI c := by rw [← h]; exact nI_1 a
theorem k_dec {a : Nat} (c : Nat) (h : a = c + 1) : nI a + Int32.ofInt (-1) = nI c := by rw [h]; exact pk_m1 c
section KNUM
variable {p : Program} {l : Launch} {e : Env} {R : Room} {s : State} {m : MethodId} {args : Array Value} {below : List Frame} {meth : Method} {c : Code} {H : Heap} {locs : List Loc} {cells slots : Nat} {Q : State → Prop}
variable {cc : ByteArray} {pc : Nat} {ls : Array Slot} {rest : List Value}
theorem k_iaddN (hx : p.tables.exec = Jvm.exec) (hb : c.code = cc) (a b z : Nat) (hdg : decode cc pc = .ok (.iadd, 1)) (h : a + b = z) (k : W p l e R s m args below meth c H locs cells slots Q (F0 m (pc + 1) ls (.int (nI z) :: rest))) : W p l e R s m args below meth c H locs cells slots Q (F0 m pc ls (.int (nI b) :: .int (nI a) :: rest)) :=
  lv_iadd hx hb hdg (by rw [k_addN z h]; exact k)
theorem k_imulN (hx : p.tables.exec = Jvm.exec) (hb : c.code = cc) (a b z : Nat) (hdg : decode cc pc = .ok (.imul, 1)) (h : a * b = z) (k : W p l e R s m args below meth c H locs cells slots Q (F0 m (pc + 1) ls (.int (nI z) :: rest))) : W p l e R s m args below meth c H locs cells slots Q (F0 m pc ls (.int (nI b) :: .int (nI a) :: rest)) :=
  lv_imul hx hb hdg (by rw [k_mulN z h]; exact k)
theorem k_isubN (hx : p.tables.exec = Jvm.exec) (hb : c.code = cc) (a b z : Nat) (hdg : decode cc pc = .ok (.isub, 1)) (h : a = b + z) (k : W p l e R s m args below meth c H locs cells slots Q (F0 m (pc + 1) ls (.int (nI z) :: rest))) : W p l e R s m args below meth c H locs cells slots Q (F0 m pc ls (.int (nI b) :: .int (nI a) :: rest)) :=
  lv_isub hx hb hdg (by rw [k_subN z h]; exact k)
theorem k_icmp_ltN (hx : p.tables.exec = Jvm.exec) (hb : c.code = cc) (a b : Nat) {off : Int} (tgt : Nat) (ha : a < 2 ^ 31) (hb2 : b < 2 ^ 31) (hdg : decode cc pc = .ok (.if_icmp .lt off, 3)) (ht : (pc : Int) + off = (tgt : Int)) (kt : a < b → W p l e R s m args below meth c H locs cells slots Q (F0 m tgt ls rest)) (kf : b ≤ a → W p l e R s m args below meth c H locs cells slots Q (F0 m (pc + 3) ls rest)) : W p l e R s m args below meth c H locs cells slots Q (F0 m pc ls (.int (nI b) :: .int (nI a) :: rest)) :=
  lv_icmp_lt hx hb hdg ht (fun h => kt ((nI_ltI ha hb2).mp h)) (fun h => kf (Nat.not_lt.mp fun z => h ((nI_ltI ha hb2).mpr z)))
theorem k_icmp_geN (hx : p.tables.exec = Jvm.exec) (hb : c.code = cc) (a b : Nat) {off : Int} (tgt : Nat) (ha : a < 2 ^ 31) (hb2 : b < 2 ^ 31) (hdg : decode cc pc = .ok (.if_icmp .ge off, 3)) (ht : (pc : Int) + off = (tgt : Int)) (kt : b ≤ a → W p l e R s m args below meth c H locs cells slots Q (F0 m tgt ls rest)) (kf : a < b → W p l e R s m args below meth c H locs cells slots Q (F0 m (pc + 3) ls rest)) : W p l e R s m args below meth c H locs cells slots Q (F0 m pc ls (.int (nI b) :: .int (nI a) :: rest)) :=
  lv_icmp_ge hx hb hdg ht (fun h => kt ((nI_leI hb2 ha).mp h)) (fun h => kf (Nat.not_le.mp fun z => h ((nI_leI hb2 ha).mpr z)))
theorem k_icmp_gtN (hx : p.tables.exec = Jvm.exec) (hb : c.code = cc) (a b : Nat) {off : Int} (tgt : Nat) (ha : a < 2 ^ 31) (hb2 : b < 2 ^ 31) (hdg : decode cc pc = .ok (.if_icmp .gt off, 3)) (ht : (pc : Int) + off = (tgt : Int)) (kt : b < a → W p l e R s m args below meth c H locs cells slots Q (F0 m tgt ls rest)) (kf : a ≤ b → W p l e R s m args below meth c H locs cells slots Q (F0 m (pc + 3) ls rest)) : W p l e R s m args below meth c H locs cells slots Q (F0 m pc ls (.int (nI b) :: .int (nI a) :: rest)) :=
  lv_icmp_gt hx hb hdg ht (fun h => kt ((nI_ltI hb2 ha).mp h)) (fun h => kf (Nat.not_lt.mp fun z => h ((nI_ltI hb2 ha).mpr z)))
theorem k_icmp_leN (hx : p.tables.exec = Jvm.exec) (hb : c.code = cc) (a b : Nat) {off : Int} (tgt : Nat) (ha : a < 2 ^ 31) (hb2 : b < 2 ^ 31) (hdg : decode cc pc = .ok (.if_icmp .le off, 3)) (ht : (pc : Int) + off = (tgt : Int)) (kt : a ≤ b → W p l e R s m args below meth c H locs cells slots Q (F0 m tgt ls rest)) (kf : b < a → W p l e R s m args below meth c H locs cells slots Q (F0 m (pc + 3) ls rest)) : W p l e R s m args below meth c H locs cells slots Q (F0 m pc ls (.int (nI b) :: .int (nI a) :: rest)) :=
  lv_icmp_le hx hb hdg ht (fun h => kt ((nI_leI ha hb2).mp h)) (fun h => kf (Nat.not_le.mp fun z => h ((nI_leI ha hb2).mpr z)))
theorem k_icmp_eqN (hx : p.tables.exec = Jvm.exec) (hb : c.code = cc) (a b : Nat) {off : Int} (tgt : Nat) (ha : a < 2 ^ 31) (hb2 : b < 2 ^ 31) (hdg : decode cc pc = .ok (.if_icmp .eq off, 3)) (ht : (pc : Int) + off = (tgt : Int)) (kt : a = b → W p l e R s m args below meth c H locs cells slots Q (F0 m tgt ls rest)) (kf : a ≠ b → W p l e R s m args below meth c H locs cells slots Q (F0 m (pc + 3) ls rest)) : W p l e R s m args below meth c H locs cells slots Q (F0 m pc ls (.int (nI b) :: .int (nI a) :: rest)) :=
  lv_icmp_eq hx hb hdg ht (fun h => kt ((nI_eq ha hb2).mp h)) (fun h => kf fun z => h ((nI_eq ha hb2).mpr z))
theorem k_icmp_neN (hx : p.tables.exec = Jvm.exec) (hb : c.code = cc) (a b : Nat) {off : Int} (tgt : Nat) (ha : a < 2 ^ 31) (hb2 : b < 2 ^ 31) (hdg : decode cc pc = .ok (.if_icmp .ne off, 3)) (ht : (pc : Int) + off = (tgt : Int)) (kt : a ≠ b → W p l e R s m args below meth c H locs cells slots Q (F0 m tgt ls rest)) (kf : a = b → W p l e R s m args below meth c H locs cells slots Q (F0 m (pc + 3) ls rest)) : W p l e R s m args below meth c H locs cells slots Q (F0 m pc ls (.int (nI b) :: .int (nI a) :: rest)) :=
  lv_icmp_ne hx hb hdg ht (fun h => kt fun z => h ((nI_eq ha hb2).mpr z)) (fun h => kf ((nI_eq ha hb2).mp (by first | exact h | exact Classical.byContradiction h)))
theorem k_icmp_eqB (hx : p.tables.exec = Jvm.exec) (hb : c.code = cc) (a b : Bool) {off : Int} (tgt : Nat) (hdg : decode cc pc = .ok (.if_icmp .eq off, 3)) (ht : (pc : Int) + off = (tgt : Int)) (kt : a = b → W p l e R s m args below meth c H locs cells slots Q (F0 m tgt ls rest)) (kf : ¬ a = b → W p l e R s m args below meth c H locs cells slots Q (F0 m (pc + 3) ls rest)) : W p l e R s m args below meth c H locs cells slots Q (F0 m pc ls (.int (bI b) :: .int (bI a) :: rest)) :=
  lv_icmp_eq hx hb hdg ht (fun h => kt (bI_inj.mp h)) (fun h => kf fun z => h (bI_inj.mpr z))
theorem k_icmp_neB (hx : p.tables.exec = Jvm.exec) (hb : c.code = cc) (a b : Bool) {off : Int} (tgt : Nat) (hdg : decode cc pc = .ok (.if_icmp .ne off, 3)) (ht : (pc : Int) + off = (tgt : Int)) (kt : ¬ a = b → W p l e R s m args below meth c H locs cells slots Q (F0 m tgt ls rest)) (kf : a = b → W p l e R s m args below meth c H locs cells slots Q (F0 m (pc + 3) ls rest)) : W p l e R s m args below meth c H locs cells slots Q (F0 m pc ls (.int (bI b) :: .int (bI a) :: rest)) :=
  lv_icmp_ne hx hb hdg ht (fun h => kt fun z => h (bI_inj.mpr z)) (fun h => kf (bI_inj.mp (by first | exact h | exact Classical.byContradiction h)))
theorem k_if_eqB (hx : p.tables.exec = Jvm.exec) (hb : c.code = cc) (a : Bool) {off : Int} (tgt : Nat) (hdg : decode cc pc = .ok (.ifCond .eq off, 3)) (ht : (pc : Int) + off = (tgt : Int)) (kt : a = false → W p l e R s m args below meth c H locs cells slots Q (F0 m tgt ls rest)) (kf : a = true → W p l e R s m args below meth c H locs cells slots Q (F0 m (pc + 3) ls rest)) : W p l e R s m args below meth c H locs cells slots Q (F0 m pc ls (.int (bI a) :: rest)) :=
  lv_if_eq hx hb hdg ht (fun h => kt (bI_inj.mp h)) (fun h => kf (by cases a with | true => rfl | false => exact absurd rfl h))
theorem k_if_neB (hx : p.tables.exec = Jvm.exec) (hb : c.code = cc) (a : Bool) {off : Int} (tgt : Nat) (hdg : decode cc pc = .ok (.ifCond .ne off, 3)) (ht : (pc : Int) + off = (tgt : Int)) (kt : a = true → W p l e R s m args below meth c H locs cells slots Q (F0 m tgt ls rest)) (kf : a = false → W p l e R s m args below meth c H locs cells slots Q (F0 m (pc + 3) ls rest)) : W p l e R s m args below meth c H locs cells slots Q (F0 m pc ls (.int (bI a) :: rest)) :=
  lv_if_ne hx hb hdg ht (fun h => kt (by cases a with | true => rfl | false => exact absurd rfl h)) (fun h => kf (bI_inj.mp (by first | exact h | exact Classical.byContradiction h)))
theorem k_if_ltN (hx : p.tables.exec = Jvm.exec) (hb : c.code = cc) (a : Nat) {off : Int} (tgt : Nat) (ha : a < 2 ^ 31) (hdg : decode cc pc = .ok (.ifCond .lt off, 3)) (ht : (pc : Int) + off = (tgt : Int)) (kf : W p l e R s m args below meth c H locs cells slots Q (F0 m (pc + 3) ls rest)) : W p l e R s m args below meth c H locs cells slots Q (F0 m pc ls (.int (nI a) :: rest)) :=
  lv_if_lt hx hb hdg ht (fun h => absurd h (nI_pos ha)) (fun _ => kf)
theorem k_if_geN (hx : p.tables.exec = Jvm.exec) (hb : c.code = cc) (a : Nat) {off : Int} (tgt : Nat) (ha : a < 2 ^ 31) (hdg : decode cc pc = .ok (.ifCond .ge off, 3)) (ht : (pc : Int) + off = (tgt : Int)) (kt : W p l e R s m args below meth c H locs cells slots Q (F0 m tgt ls rest)) : W p l e R s m args below meth c H locs cells slots Q (F0 m pc ls (.int (nI a) :: rest)) :=
  lv_if_ge hx hb hdg ht (fun _ => kt) (fun h => absurd (nI_pos' ha) h)
theorem k_if_gtN (hx : p.tables.exec = Jvm.exec) (hb : c.code = cc) (a : Nat) {off : Int} (tgt : Nat) (ha : a < 2 ^ 31) (hdg : decode cc pc = .ok (.ifCond .gt off, 3)) (ht : (pc : Int) + off = (tgt : Int)) (kt : 0 < a → W p l e R s m args below meth c H locs cells slots Q (F0 m tgt ls rest)) (kf : a = 0 → W p l e R s m args below meth c H locs cells slots Q (F0 m (pc + 3) ls rest)) : W p l e R s m args below meth c H locs cells slots Q (F0 m pc ls (.int (nI a) :: rest)) :=
  lv_if_gt hx hb hdg ht (fun h => kt (by rcases Nat.eq_zero_or_pos a with z | z; (subst z; exact absurd h (by decide)); exact z)) (fun h => kf (by rcases Nat.eq_zero_or_pos a with z | z; exact z; exact absurd (nI_lt (a := 0) z ha) h))
theorem k_if_leN (hx : p.tables.exec = Jvm.exec) (hb : c.code = cc) (a : Nat) {off : Int} (tgt : Nat) (ha : a < 2 ^ 31) (hdg : decode cc pc = .ok (.ifCond .le off, 3)) (ht : (pc : Int) + off = (tgt : Int)) (kt : a = 0 → W p l e R s m args below meth c H locs cells slots Q (F0 m tgt ls rest)) (kf : 0 < a → W p l e R s m args below meth c H locs cells slots Q (F0 m (pc + 3) ls rest)) : W p l e R s m args below meth c H locs cells slots Q (F0 m pc ls (.int (nI a) :: rest)) :=
  lv_if_le hx hb hdg ht (fun h => kt (by rcases Nat.eq_zero_or_pos a with z | z; exact z; exact absurd h (nI_nle z ha))) (fun h => kf (by rcases Nat.eq_zero_or_pos a with z | z; (subst z; exact absurd (by decide) h); exact z))
theorem k_if_eqN (hx : p.tables.exec = Jvm.exec) (hb : c.code = cc) (a : Nat) {off : Int} (tgt : Nat) (ha : a < 2 ^ 31) (hdg : decode cc pc = .ok (.ifCond .eq off, 3)) (ht : (pc : Int) + off = (tgt : Int)) (kt : a = 0 → W p l e R s m args below meth c H locs cells slots Q (F0 m tgt ls rest)) (kf : 0 < a → W p l e R s m args below meth c H locs cells slots Q (F0 m (pc + 3) ls rest)) : W p l e R s m args below meth c H locs cells slots Q (F0 m pc ls (.int (nI a) :: rest)) :=
  lv_if_eq hx hb hdg ht (fun h => kt (by rcases Nat.eq_zero_or_pos a with z | z; exact z; exact absurd h (nI_ne0 z ha))) (fun h => kf (by rcases Nat.eq_zero_or_pos a with z | z; (subst z; exact absurd rfl h); exact z))
theorem k_if_neN (hx : p.tables.exec = Jvm.exec) (hb : c.code = cc) (a : Nat) {off : Int} (tgt : Nat) (ha : a < 2 ^ 31) (hdg : decode cc pc = .ok (.ifCond .ne off, 3)) (ht : (pc : Int) + off = (tgt : Int)) (kt : 0 < a → W p l e R s m args below meth c H locs cells slots Q (F0 m tgt ls rest)) (kf : a = 0 → W p l e R s m args below meth c H locs cells slots Q (F0 m (pc + 3) ls rest)) : W p l e R s m args below meth c H locs cells slots Q (F0 m pc ls (.int (nI a) :: rest)) :=
  lv_if_ne hx hb hdg ht (fun h => kt (by rcases Nat.eq_zero_or_pos a with z | z; (subst z; exact absurd rfl h); exact z)) (fun h => kf (by rcases Nat.eq_zero_or_pos a with z | z; exact z; exact absurd (by first | exact h | exact Classical.byContradiction h) (nI_ne0 z ha)))
end KNUM
section KDET
variable {p : Program} {l : Launch} {e : Env} {R : Room} {s : State} {m : MethodId} {args : Array Value} {below : List Frame} {meth : Method} {c : Code} {H : Heap} {locs : List Loc} {cells slots : Nat} {Q : State → Prop}
variable {cc : ByteArray} {nL : Nat} {ret : Option FieldType} {own : String} {G : KG} {A : Nat → Prop} {bs bs' : List va_W} {pc : Nat} {ls : Array Slot} {rest : List Value} {lv : List (Nat × Value)}
variable {y : MethodName} {bytes : ByteArray} {maxL fr lo mc ms index : Nat} {retc : Option FieldType} {As st0 : List Value} {b : Nat}
/-- the whole world is the callee's; the answer and the world behind are told -/
theorem k_callVd (hc : kC p s m args meth c cc nL ret own G A) (hO : kW G s A bs H locs) (hl : lv_has ls nL lv) {v : Value} (hM : KM l y bytes maxL retc fr lo mc ms G (.ref b :: As) bs (kDet (some v) bs')) {C : String} (n : Nat) (w1 : Cond.methodLink own index y ∈ lw_all) (w2 : Cond.instanceMethod y ∈ lw_all) (w3 : Cond.selects C y y ∈ lw_all) (w4 : Cond.initialized C ∈ lw_all) (w5 : Cond.code y bytes maxL retc ∈ lw_all)
    (hd : y.cls = C ∧ y.cls ≠ "java/lang/invoke/MethodHandle" ∧ y.cls ≠ "java/lang/invoke/VarHandle" ∧ (parseMethodDescriptor y.desc).map (fun d => d.parameters.length) = some n) (hn : As.length = n) {ci : Nat} {q : vw_C} (hcl : kCL[ci]? = some q) (hq : q.1 = C) (hr : kRecv bs b ci) (hR : fr + 1 ≤ R.frames ∧ 8 + (maxL + 11) + lo ≤ R.locals ∧ cells + mc ≤ R.cells ∧ slots + ms ≤ R.slots) (hst : (rest.map fun v => v.category).sum ≤ 8) (hdg : decode cc pc = .ok (.invokevirtual index, 3)) (hstk : st0 = As.reverse ++ .ref b :: rest)
    (kk : ∀ (H1 : Heap) (locs1 : List Loc), kW G s A bs' H1 locs1 → W p l e R s m args below meth c H1 locs1 (cells + mc) (slots + ms) Q (F0 m (pc + 3) ls (v :: rest))) : W p l e R s m args below meth c H locs cells slots Q (F0 m pc ls st0) := by
  refine k_callV (bsC := bs) (bsR := []) hc hO hl hM n w1 w2 w3 w4 w5 hd hn (by rw [List.append_nil]; exact hO.1) hcl hq hr hR hst hdg hstk fun v' b' H1 locs1 hq' h1 => ?_
  obtain ⟨rfl, rfl⟩ := hq'
  rw [List.append_nil] at h1
  exact kk H1 locs1 h1
theorem k_callVdv (hc : kC p s m args meth c cc nL ret own G A) (hO : kW G s A bs H locs) (hl : lv_has ls nL lv) (hM : KM l y bytes maxL retc fr lo mc ms G (.ref b :: As) bs (kDet none bs')) {C : String} (n : Nat) (w1 : Cond.methodLink own index y ∈ lw_all) (w2 : Cond.instanceMethod y ∈ lw_all) (w3 : Cond.selects C y y ∈ lw_all) (w4 : Cond.initialized C ∈ lw_all) (w5 : Cond.code y bytes maxL retc ∈ lw_all)
    (hd : y.cls = C ∧ y.cls ≠ "java/lang/invoke/MethodHandle" ∧ y.cls ≠ "java/lang/invoke/VarHandle" ∧ (parseMethodDescriptor y.desc).map (fun d => d.parameters.length) = some n) (hn : As.length = n) {ci : Nat} {q : vw_C} (hcl : kCL[ci]? = some q) (hq : q.1 = C) (hr : kRecv bs b ci) (hR : fr + 1 ≤ R.frames ∧ 8 + (maxL + 11) + lo ≤ R.locals ∧ cells + mc ≤ R.cells ∧ slots + ms ≤ R.slots) (hst : (rest.map fun v => v.category).sum ≤ 8) (hdg : decode cc pc = .ok (.invokevirtual index, 3)) (hstk : st0 = As.reverse ++ .ref b :: rest)
    (kk : ∀ (H1 : Heap) (locs1 : List Loc), kW G s A bs' H1 locs1 → W p l e R s m args below meth c H1 locs1 (cells + mc) (slots + ms) Q (F0 m (pc + 3) ls rest)) : W p l e R s m args below meth c H locs cells slots Q (F0 m pc ls st0) := by
  refine k_callV (bsC := bs) (bsR := []) hc hO hl hM n w1 w2 w3 w4 w5 hd hn (by rw [List.append_nil]; exact hO.1) hcl hq hr hR hst hdg hstk fun v' b' H1 locs1 hq' h1 => ?_
  obtain ⟨rfl, rfl⟩ := hq'
  rw [List.append_nil] at h1
  exact kk H1 locs1 h1
/-- a static method of whole numbers alone -/
theorem k_callS0 (hc : kC p s m args meth c cc nL ret own G A) (hO : kW G s A bs H locs) (hl : lv_has ls nL lv) {v : Value} (hM : KM l y bytes maxL retc fr lo mc ms G As [] (kDet (some v) [])) (n : Nat) (w1 : Cond.methodLink own index y ∈ lw_all) (w2 : Cond.static y ∈ lw_all) (w4 : Cond.initialized y.cls ∈ lw_all) (w5 : Cond.code y bytes maxL retc ∈ lw_all)
    (hd : y.cls ≠ "java/lang/invoke/MethodHandle" ∧ y.cls ≠ "java/lang/invoke/VarHandle" ∧ (parseMethodDescriptor y.desc).map (fun d => d.parameters.length) = some n) (hn : As.length = n) (hR : fr + 1 ≤ R.frames ∧ 8 + (maxL + 11) + lo ≤ R.locals ∧ cells + mc ≤ R.cells ∧ slots + ms ≤ R.slots) (hst : (rest.map fun v => v.category).sum ≤ 8) (hdg : decode cc pc = .ok (.invokestatic index, 3)) (hstk : st0 = As.reverse ++ rest)
    (kk : ∀ (H1 : Heap) (locs1 : List Loc), kW G s A bs H1 locs1 → W p l e R s m args below meth c H1 locs1 (cells + mc) (slots + ms) Q (F0 m (pc + 3) ls (v :: rest))) : W p l e R s m args below meth c H locs cells slots Q (F0 m pc ls st0) := by
  refine k_callS (bsC := []) (bsR := bs) hc hO hl hM n w1 w2 w4 w5 hd hn hO.1 hR hst hdg hstk fun v' b' H1 locs1 hq' h1 => ?_
  obtain ⟨rfl, rfl⟩ := hq'
  exact kk H1 locs1 h1
end KDET
theorem k_sw (x : Int32) (n : Nat) (hn : n < 2 ^ 31) : (∃ k : Nat, k < n ∧ x = nI k) ∨ (x.toInt < 0 ∨ (n : Int) ≤ x.toInt) := by
  by_cases h : x.toInt < 0
  · exact Or.inr (Or.inl h)
  · by_cases h2 : (n : Int) ≤ x.toInt
    · exact Or.inr (Or.inr h2)
    · obtain ⟨j, hj, e⟩ := vp_in_of (x := x) (n := n) (vp_in_iff.mpr ⟨by omega, by omega⟩) hn
      exact Or.inl ⟨j, hj, e⟩
theorem nI_tI {k : Nat} (h : k < 2 ^ 31) : (nI k).toInt = (k : Int) := nI_toInt h
