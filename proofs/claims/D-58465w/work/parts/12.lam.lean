/-! LAYER: lambdas: the made classes; a call of a made object through Choice.is -/
def lmD (sg : Lambda.Shape) (own : String) : ClassFile := (sg.file own).getD { minorVersion := 0, majorVersion := 0, constantPool := #[], accessFlags := 0, thisClass := 0, superClass := 0, interfaces := #[], fields := #[], methods := #[], attributes := #[] }
def lmM (sg : Lambda.Shape) (own : String) : Method := ((layoutMethods (lmD sg own)).bind (·[1]?)).getD default
def lmL (sg : Lambda.Shape) (own : String) : Array Field × Array FieldType × Array FieldType := (layoutFields (lmD sg own) 0).getD (#[], #[], #[])
/-- what a computation shows of a made class: its forwarder's bytes, its pool's places -/
def lmOk (sg : Lambda.Shape) (own : String) (bytes : ByteArray) (im ic inn cn : Nat) : Bool :=
  (sg.file own).isSome && ((layoutMethods (lmD sg own)).bind (·[1]?)).isSome && decide ((lmM sg own).code.map (fun c => (c.code.data, c.maxLocals)) = some (bytes.data, 2)) && decide (((lmM sg own).accessFlags, (lmM sg own).sig.returnType) = (1, some FieldType.boolean)) &&
  decide ((lmD sg own).constantPool[im]? = some (.methodref ic inn)) && decide ((lmD sg own).constantPool.className? ic = some sg.implClass) && decide ((lmD sg own).constantPool.nameAndType? inn = some (sg.implName, sg.implDesc.toString)) &&
  decide ((lmD sg own).constantPool[ic]? = some (.class_ cn)) && decide ((lmD sg own).constantPool.string? cn = some sg.implClass) && decide (ic ≠ (lmD sg own).thisClass)
def lmOkF (sg : Lambda.Shape) (own : String) (ty : FieldType) : Bool :=
  (layoutFields (lmD sg own) 0).isSome && decide ((lmD sg own).constantPool[15]? = some (.fieldref 2 14)) && decide ((lmD sg own).constantPool.nameAndType? 14 = some ("arg$1", ty.toString)) && decide ((lmL sg own).1.findIdx? (·.name == "arg$1") = some 0) && decide (((lmL sg own).1[0]?).map (fun f => (f.isStatic, f.slot)) = some (false, 0)) && decide ((lmL sg own).2.1 = #[ty])
theorem lm_made {vm : Vm} {d c : ClassId} {dk : Class} {sg : Lambda.Shape} {own : String} {bytes : ByteArray} {im ic inn cn : Nat} (hok : lmOk sg own bytes im ic inn cn = true) (hd : vm.classes[d]? = some dk) (hname : dk.name = own) (h : Lambda.isMade { classPath := fun _ => none } vm d sg c = true) :
    ∃ (k tk : Class) (file : ClassFile) (methk : Method) (ck : Code) (tc : ClassId) (t : MethodId),
      vm.classes[c]? = some k ∧ k.name = own ++ "$$Lambda" ∧ k.cf = some file ∧ file.constantPool[im]? = some (.methodref ic inn) ∧ file.constantPool.nameAndType? inn = some (sg.implName, sg.implDesc.toString) ∧
      vm.method? ⟨c, 1⟩ = some methk ∧ methk.code = some ck ∧ ck.code = bytes ∧ ck.maxLocals = 2 ∧ methk.locks = false ∧ methk.accessFlags = 0x0001 ∧ methk.sig.returnType = some .boolean ∧
      vm.findClass sg.implClass = some tc ∧ vm.classes[tc]? = some tk ∧ ((methodIn tc sg.implName sg.implDesc.toString tk.isInterface none).ask { classPath := fun _ => none } vm).1 = .ok t ∧
      vm.methodReady c im t ∧ vm.classReady c ic tc ∧
      (∀ ty : FieldType, lmOkF sg own ty = true → (∀ o ok, vm.findClass "java/lang/Object" = some o → vm.classes[o]? = some ok → ok.instanceTypes.size = 0) → (∃ f0 : Field, vm.fieldReady c 15 c f0 ∧ f0.isStatic = false ∧ f0.slot = 0) ∧ k.instanceTypes = #[ty] ∧ k.kind = .ordinary) := by
  simp only [lmOk, Bool.and_eq_true, decide_eq_true_eq] at hok
  obtain ⟨⟨⟨⟨⟨⟨⟨⟨⟨h1, h2⟩, h3⟩, h4⟩, h5⟩, h6⟩, h7⟩, h8⟩, h9⟩, h10⟩ := hok
  obtain ⟨D, hD⟩ := Option.isSome_iff_exists.mp h1
  have eD : lmD sg own = D := by simp [lmD, hD]
  obtain ⟨fw, hfw⟩ := Option.isSome_iff_exists.mp h2
  have eM : lmM sg own = fw := by simp [lmM, hfw]
  rw [eM] at h3 h4
  rw [eD] at h5 h6 h7 h8 h9 h10 hfw
  obtain ⟨dk', k, ok, tk, file, cf, object, iface, toy, lay, methods, target, found, hd', hk, hfile, hcf, hobj, -, hok, hlay, hms, ht, htk, hg, -, hrec, -, -, -, -, hpool, hmeth, hfields, hinst, hres, -⟩ := Lambda.isMade_spec h
  cases hd.symm.trans hd'
  rw [hname, hD] at hcf
  cases hcf
  rw [hms] at hfw
  obtain ⟨b, hb, hsame⟩ := hmeth 1 fw hfw
  simp only [Lambda.sameMethod, Bool.and_eq_true, decide_eq_true_eq] at hsame
  obtain ⟨⟨hn, -, hsig, hfl⟩, hcode⟩ := hsame
  simp only [Prod.mk.injEq] at h4
  cases hfc : fw.code with
  | none => rw [hfc] at h3; cases h3
  | some x =>
    cases hbc : b.code with
    | none => simp [hfc, hbc] at hcode
    | some y =>
      simp only [hfc, hbc, Bool.and_eq_true, decide_eq_true_eq] at hcode
      simp only [hfc, Option.map_some, Option.some.injEq, Prod.mk.injEq] at h3
      refine ⟨k, tk, file, b, y, toy, target, hk, by rw [hrec.1, hname], hfile, by rw [hpool.2.1]; exact h5, by rw [hpool.2.1]; exact h7, by simp [Vm.method?, hk, hb], hbc, ?_, by rw [← hcode.1.1.1.1.2.1]; exact h3.2, ?_, by rw [← hfl]; exact h4.1, by rw [← hsig]; exact h4.2, ht, htk, hg,
        ⟨k, hk, hres im _ (Lambda.resolvedOf_method h5 h6 ht htk h7 hg)⟩, ⟨k, hk, hres ic _ (Lambda.resolvedOf_class h8 h10 h9 ht)⟩, fun ty hF hO => ?_⟩
      · rw [← hcode.1.1.1.1.2.2]
        exact ByteArray.ext h3.1
      · simp [Method.locks, Method.isSynchronized, ← hfl, h4.1, hasFlag, Acc.synchronized]
      · simp only [lmOkF, Bool.and_eq_true, decide_eq_true_eq] at hF
        obtain ⟨⟨⟨⟨⟨f1, f2⟩, f3⟩, f4⟩, f5⟩, f6⟩ := hF
        rw [eD] at f1 f2 f3
        have hz := hO object ok hobj hok
        rw [hz] at hlay
        have eL : lmL sg own = lay := by simp [lmL, eD, hlay]
        rw [eL] at f4 f5 f6
        obtain ⟨g0, hg0, hp0⟩ := Option.map_eq_some_iff.mp f5
        simp only [Prod.mk.injEq] at hp0
        have he : ok.instanceTypes = #[] := Array.eq_empty_of_size_eq_zero hz
        exact ⟨⟨g0, ⟨k, 0, k, hk, hres 15 _ (Lambda.resolvedOf_field f2 f3 f4), hk, hfields 0 _ hg0⟩, hp0.1, hp0.2⟩, by rw [hinst.1, he, f6]; rfl, hrec.2.1⟩
def fwc0 : ByteArray := ⟨#[43, 184, 0, 17, 172]⟩
def fwc1 : ByteArray := ⟨#[42, 180, 0, 15, 43, 184, 0, 23, 172]⟩
def fwc4 : ByteArray := ⟨#[42, 180, 0, 15, 43, 182, 0, 22, 172]⟩
theorem lmOk0 : lmOk sg0 "CanalSteps$Canal" fwc0 17 14 16 13 = true := by decide +kernel
theorem lmOk1 : lmOk sg1 "CanalSteps" fwc1 23 19 22 18 = true := by decide +kernel
theorem lmOk2 : lmOk sg2 "CanalSteps" fwc1 23 19 22 18 = true := by decide +kernel
theorem lmOk3 : lmOk sg3 "CanalSteps" fwc1 23 19 22 18 = true := by decide +kernel
theorem lmOk4 : lmOk sg4 "CanalSteps" fwc4 22 19 21 18 = true := by decide +kernel
theorem lmF1 : lmOkF sg1 "CanalSteps" .int = true := by decide +kernel
theorem lmF2 : lmOkF sg2 "CanalSteps" .int = true := by decide +kernel
theorem lmF3 : lmOkF sg3 "CanalSteps" (.object "CanalSteps$Canal") = true := by decide +kernel
theorem lmF4 : lmOkF sg4 "CanalSteps" (.object "CanalSteps") = true := by decide +kernel
theorem lm_ob {α β : Type} {x : Option α} {f : α → Option β} {b : β} (h : (x >>= f) = some b) : ∃ a, x = some a ∧ f a = some b := Option.bind_eq_some_iff.mp h
theorem lm_shape {cf : ClassFile} {ix : Nat} {sg : Lambda.Shape} (h : Lambda.shapeOf? cf ix = some sg) : ∃ (b nt : Nat) (name desc : String) (site : MethodDescriptor), cf.constantPool[ix]? = some (.invokeDynamic b nt) ∧ cf.constantPool.nameAndType? nt = some (name, desc) ∧ parseMethodDescriptor desc = some site ∧ sg.captured = site.parameters := by
  unfold Lambda.shapeOf? at h
  generalize hcp : cf.constantPool[ix]? = x at h
  match x, h with
  | some (.invokeDynamic b nt), h =>
    obtain ⟨bms, h1, h⟩ := lm_ob h
    obtain ⟨bm, h2, h⟩ := lm_ob h
    generalize hmh : cf.constantPool[bm.bootstrapMethodRef]? = y at h
    match y, h with
    | some (.methodHandle 6 r), h =>
      obtain ⟨u, h3, h⟩ := lm_ob h
      generalize hba : bm.bootstrapArguments = z at h
      by_cases hs : z.size = 3
      case neg =>
        unfold Lambda.shapeOf?.match_15 at h
        rw [dif_neg hs] at h
        cases h
      case pos =>
        obtain ⟨a0, a1, a2, rfl⟩ : ∃ a0 a1 a2, z = #[a0, a1, a2] := by
          obtain ⟨l⟩ := z
          match l, hs with
          | [a0, a1, a2], _ => exact ⟨a0, a1, a2, rfl⟩
        unfold Lambda.shapeOf?.match_15 at h
        dsimp at h
        split at h
        · split at h
          · split at h
            · obtain ⟨nd, h4, h⟩ := Option.bind_eq_some_iff.mp h
              obtain ⟨site, h5, h⟩ := Option.bind_eq_some_iff.mp h
              refine ⟨b, nt, nd.1, nd.2, site, rfl, h4, h5, ?_⟩
              split at h
              · obtain ⟨q, h6, h⟩ := Option.bind_eq_some_iff.mp h
                obtain ⟨x1, h7, h⟩ := Option.bind_eq_some_iff.mp h
                obtain ⟨x2, h8, h⟩ := Option.bind_eq_some_iff.mp h
                obtain ⟨x3, h9, h⟩ := Option.bind_eq_some_iff.mp h
                obtain ⟨x4, h10, h⟩ := Option.bind_eq_some_iff.mp h
                obtain ⟨x5, h11, h⟩ := Option.bind_eq_some_iff.mp h
                cases h
                rfl
              · cases h
            · cases h
          · cases h
        · cases h
theorem lm_weaken {tb : Tables} {e : Env} {mid below : List Frame} {a b : State} (h : Steps tb e (mid ++ below) a b) : Steps tb e below a b := by
  obtain ⟨n, hn, w⟩ := h
  exact ⟨n, hn, fun k hk => (w k hk).weaken⟩
section KLAM
variable {p : Program} {l : Launch} {e : Env} {R : Room} {s : State} {m : MethodId} {args : Array Value} {below : List Frame} {meth : Method} {c : Code} {H : Heap} {locs : List Loc} {cells slots : Nat} {Q : State → Prop}
variable {cc : ByteArray} {nL : Nat} {ret : Option FieldType} {own : String} {G : KG} {A : Nat → Prop} {bs bs' : List va_W} {pc : Nat} {ls : Array Slot} {rest : List Value} {a : Nat} {lv : List (Nat × Value)}
theorem kC.lams (hc : kC p s m args meth c cc nL ret own G A) : kLams G s s.heap := hc.2.2.2.2.2.2.2.1.2.2.2.2.2.2
/-- the made class's forwarder runs in a frame of its own: a walk there is a run here -/
theorem lm_run (hc : kC p s m args meth c cc nL ret own G A) (hl : lv_has ls nL lv) {x0 : MethodName} {pc0 ix0 : Nat} {sg : Lambda.Shape} {cK : ClassId} {one : Option Nat} (hL : kLam s s.heap x0 pc0 ix0 sg cK one) {bytes : ByteArray} {im ic inn cn : Nat} (hok : lmOk sg x0.cls bytes im ic inn cn = true) (hsg : sg.iface = "CanalSteps$Choice" ∧ sg.name = "is" ∧ sg.sam.toString = "(LCanalSteps$Boat;)Z") (hpl : plainName (x0.cls ++ "$$Lambda") = true)
    {cell : Cell} (hcell : H[a]? = some cell) (hcls : cell.cls = cK) (hvm : cell.vm = .none) {index count : Nat} (w1 : Cond.methodLink own index kxIs ∈ lw_all) {v1 : Value} {fr lo mc ms : Nat} {Qc : Array Value → State → Outcome → State → Prop} {free : Addr → Prop}
    (hR : fr + 1 ≤ R.frames ∧ 8 + (2 + 11) + lo ≤ R.locals ∧ cells + mc ≤ R.cells ∧ slots + ms ≤ R.slots) (hst : (rest.map fun v => v.category).sum ≤ 8) (hdg : decode cc pc = .ok (.invokeinterface index count, 5))
    (inner : ∀ (B : State) (mk : MethodId) (below' : List Frame) (methk : Method) (ck : Code), B.heap = H → s.WarmedH B.vm → mk = ⟨cK, 1⟩ → ck.code = bytes → ck.maxLocals = 2 → methk.locks = false → methk.sig.returnType = some .boolean →
      W p l e ({ frames := fr, cells := mc, slots := ms, locals := lo } : Room) B mk #[.ref a, v1] below' methk ck H [] 0 0 (MQ below' Qc #[.ref a, v1] B mc ms free) (entryFrame mk #[.ref a, v1] 2)) (aa : Array Value) (hQa : ∀ B o t, B.heap = H → Qc #[.ref a, v1] B o t → Qc aa B o t) :
    va_Run5 p l e R s m args below meth c H locs cells slots mc ms (F0 m pc ls (v1 :: .ref a :: rest)) rest (Qc aa) free := by
  intro T hT X
  obtain ⟨m0, k0, cf0, i0, p0, lk, hm0, hk0, hcf0, hsh0, hfind0, hmade, hcan, -, -⟩ := hL
  obtain ⟨k0', hk0', hname0⟩ := className_of_methodNamed hm0
  cases hk0.symm.trans hk0'
  subst hcls
  have hdecl : (Cond.declares kxIs).before #[] s = true := hc.lams.2.1.1
  have hface : (Cond.interfaceMethod kxIs.cls kxIs.cls kxIs.name kxIs.desc).before #[] s = true := hc.lams.2.1.2
  obtain ⟨r0, r, hn, hrm, hstR, hsigR⟩ := Cond.declares_spec hdecl
  obtain ⟨cL, kL, r1, hcL, hkL, hiL, hfoundL, hn1⟩ := Cond.interfaceMethod_spec hface
  cases hn.symm.trans hn1
  have hr0cls : r0.cls = cL := Option.some.inj ((findClass_of_methodNamed hn).symm.trans hcL)
  obtain ⟨hnameR, hdescR⟩ := name_of_methodNamed hn hrm
  obtain ⟨hs1, hs2, hs3⟩ := hsg
  obtain ⟨kK, tk, file, methk, ck, tc, t, hkK, hkn, hfile, hpool, hpnt, hmk, hck, hbytes, hml, hlk, hfl, hretk, htc, htk, hlook, hready, hclsR, -⟩ := lm_made hok hk0 hname0 hmade
  obtain ⟨-, -, -, -, -, -, -, iface', -, -, -, -, found, -, -, -, -, -, hi', -, -, -, -, -, -, hfound', -, -, -, -, -, -, -, -, -, -, hsel⟩ := Lambda.isMade_spec hmade
  rw [hs1] at hi'
  cases hcL.symm.trans hi'
  have hfr : found = r0 := by
    have h1 : s.methodFound? "CanalSteps$Choice" "is" "(LCanalSteps$Boat;)Z" = some r0 := hfoundL
    have hcL' : s.vm.findClass "CanalSteps$Choice" = some cL := hcL
    simp only [State.methodFound?, hcL', hkL, hiL, Option.bind_eq_bind, Option.bind_some] at h1
    rw [hs2, hs3] at hfound'
    rw [hfound'] at h1
    exact Option.some.inj h1
  subst hfr
  obtain ⟨i2, hi2, hasg, hway⟩ := State.lambdaCallable_spec hcan
  rw [hs1] at hi2
  cases hcL.symm.trans hi2
  have hsigI : r.sig.parameters.length = 1 := by
    have e1 : (parseMethodDescriptor kxIs.desc).map (fun d => d.parameters.length) = some 1 := by decide +kernel
    rw [hsigR] at e1
    exact Option.some.inj e1
  obtain ⟨vm₁, X₁, hstep₁⟩ := X.invokeinterface hc.1 hc.hown (hc.w w1) hn hrm hstR (by rw [hr0cls]; exact hkL) hiL (by decide) (a := a) (cell := cell) (kcell := kK) (by rw [hT]; exact hcell) (fun z h => by rw [hvm] at h; cases h) hkK (by rw [hr0cls]; exact hasg)
    (m' := ⟨cell.cls, 1⟩) (meth' := methk) (by rw [Launch.admits_selectMethod X.admits]; exact hsel) hmk (by rw [hnameR, hdescR]; rw [hs2, hs3] at hway; exact hway) (by rw [hfl]; decide) (by simp [Method.isAbstract, hfl, hasFlag, Acc.abstract])
    (g := F0 m pc ls (v1 :: .ref a :: rest)) rfl (argsL := [v1]) (rest := rest) (by rw [hsigI]; rfl) rfl (by rw [hc.2.1]; exact hdg)
  have hW₁ : s.WarmedH vm₁ := X₁.warmed
  obtain ⟨kD₁, hkD₁, heD₁⟩ := hW₁.alike.2.2 _ _ hk0
  have hnameD₁ : kD₁.name = x0.cls := by rw [heD₁]; exact hname0
  obtain ⟨kK₁, tk₁, file₁, methk₁, ck₁, tc₁, t₁, hkK₁, hkn₁, hfile₁, hpool₁, hpnt₁, hmk₁, hck₁, hbytes₁, hml₁, hlk₁, hfl₁, hretk₁, htc₁, htk₁, hlook₁, hready₁, hclsR₁, -⟩ := lm_made hok hkD₁ hnameD₁ (Lambda.isMade_warmer hW₁ hmade)
  have hpk : (T.setVm vm₁).plainMethod ⟨cell.cls, 1⟩ := State.plainMethod.of_name (fun k' hk' => by cases hkK₁.symm.trans hk'; rw [hkn₁]; exact hpl)
  have hsz : ls.size = c.maxLocals := hl.1.trans hc.2.2.2.1.symm
  have hdg2 : decode c.code pc = .ok (.invokeinterface index count, 5) := by rw [hc.2.1]; exact hdg
  obtain ⟨Y₀, hin⟩ := X₁.into (g := F0 m pc ls rest) rfl hsz hdg2 #[.ref a, v1] (R' := ({ frames := fr, cells := mc, slots := ms, locals := lo } : Room)) hmk₁ hck₁ hlk₁ hpk hR.1 (by rw [hml₁]; have h8 := lv_room (ls := ls) (m := m) (pc := pc) (rest := rest) hst; have := hR.2.1; dsimp only at h8 ⊢; omega) hR.2.2.1 hR.2.2.2
  generalize hU : ((T.setVm vm₁).setTop (F0 m pc ls rest)).pushFrame (.java (entryFrame ⟨cell.cls, 1⟩ #[.ref a, v1] ck₁.maxLocals)) = U at Y₀ hin
  have hUh : U.heap = H := by rw [← hU]; exact hT
  obtain ⟨tt, hsteps, o, hrun, hend, hQ, L, ⟨⟨v, rfl⟩, hWt, hsm⟩, hLf⟩ := inner ((T.setVm vm₁).calling (F0 m pc ls rest) ⟨cell.cls, 1⟩ #[.ref a, v1]) ⟨cell.cls, 1⟩ (.java (F0 m pc ls rest) :: below) methk₁ ck₁ hT hW₁ rfl hbytes₁ hml₁ hlk₁ hretk₁ U hUh Y₀
  obtain ⟨T', X', hW', -, ht⟩ := X₁.outOf (g := F0 m pc ls rest) rfl hdg2 hend hWt hsm
  refine ⟨v, (T.setVm vm₁).calling (F0 m pc ls rest) ⟨cell.cls, 1⟩ #[.ref a, v1], tt, T', L, hT, X', hLf, by rw [ht]; rfl, by rw [ht]; rfl, hQa _ _ _ hT hQ, fun target hh => hstep₁ target fun acts => ?_⟩
  have h1 := hin acts
  rw [hml₁] at h1
  rw [h1]
  refine (lm_weaken (mid := [.java (F0 m pc ls rest)]) hsteps).trans ?_
  rw [ht]
  exact hh
/-- in the forwarder: the static method that the lambda stands for is called -/
theorem lm_stat (hc : kC p s m args meth c cc nL ret own G A) {x0 : MethodName} {pc0 ix0 : Nat} {sg : Lambda.Shape} {cK : ClassId} {one : Option Nat} (hL : kLam s s.heap x0 pc0 ix0 sg cK one) {bytes : ByteArray} {im ic inn cn : Nat} (hok : lmOk sg x0.cls bytes im ic inn cn = true)
    {y : MethodName} (hy : sg.implClass = y.cls ∧ sg.implName = y.name ∧ sg.implDesc.toString = y.desc) {bytesY : ByteArray} {maxL fr lo mc ms n : Nat} {retc : Option FieldType} {As : List Value} {bsC : List va_W} {Qp : Option Value → List va_W → Prop} (hM : KM l y bytesY maxL retc fr lo mc ms G As bsC Qp) (w2 : Cond.static y ∈ lw_all) (w4 : Cond.initialized y.cls ∈ lw_all) (w5 : Cond.code y bytesY maxL retc ∈ lw_all)
    (hd : y.cls ≠ "java/lang/invoke/MethodHandle" ∧ y.cls ≠ "java/lang/invoke/VarHandle" ∧ (parseMethodDescriptor y.desc).map (fun d => d.parameters.length) = some n) (hn : As.length = n) (hPc : ∀ U : State, U.heap = H → s.WarmedH U.vm → kPc G As bsC H.size As.toArray U)
    {B : State} {a' : Array Value} {below' : List Frame} {methk : Method} {ck : Code} {R' : Room} (hB : s.WarmedH B.vm) (hbk : ck.code = bytes) (hml : ck.maxLocals = 2) (hR : fr + 1 ≤ R'.frames ∧ 8 + (maxL + 11) + lo ≤ R'.locals ∧ 0 + mc ≤ R'.cells ∧ 0 + ms ≤ R'.slots) (hst : (rest.map fun v => v.category).sum ≤ 8) (hls : ls.size = 2) (hdg : decode bytes pc = .ok (.invokestatic im, 3)) :
    va_Run p l e R' B ⟨cK, 1⟩ a' below' methk ck H [] 0 0 mc ms (F0 ⟨cK, 1⟩ pc ls (As.reverse ++ rest)) rest (kQc G Qp (kA bsC H.size) As.toArray) (kA bsC H.size) := by
  intro T1 hT1 X1
  have hW1 : s.WarmedH T1.vm := State.WarmedH.trans hB X1.warmed
  obtain ⟨m0, k0, cf0, i0, p0, lk, hm0, hk0, hcf0, hsh0, hfind0, hmade, hcan, -, -⟩ := hL
  obtain ⟨k0', hk0', hname0⟩ := className_of_methodNamed hm0
  cases hk0.symm.trans hk0'
  obtain ⟨kD₁, hkD₁, heD₁⟩ := hW1.alike.2.2 _ _ hk0
  have hnameD₁ : kD₁.name = x0.cls := by rw [heD₁]; exact hname0
  obtain ⟨kK₁, tk₁, file₁, methk₁, ck₁, tc₁, t₁, hkK₁, hkn₁, hfile₁, hpool₁, hpnt₁, hmk₁, hck₁, hbytes₁, hml₁, hlk₁, hfl₁, hretk₁, htc₁, htk₁, hlook₁, hready₁, hclsR₁, -⟩ := lm_made hok hkD₁ hnameD₁ (Lambda.isMade_warmer hW1 hmade)
  obtain ⟨y1, y2, y3⟩ := hy
  rw [y1] at htc₁
  rw [y2, y3] at hlook₁ hpnt₁
  obtain ⟨my, hnamed⟩ := Cond.code_named (hc.w w5)
  obtain ⟨methM, cM, hmethM, -, -, -, -, -, -, hsigM⟩ := Cond.code_spec hnamed (hc.w w5)
  have hstatic : methM.isStatic = true := Cond.static_spec hnamed hmethM (hc.w w2)
  obtain ⟨kP, hkP, hkPn⟩ := className_of_methodNamed hnamed
  have hinitP : kP.init = .initialized := Cond.initialized_spec (findClass_of_methodNamed hnamed) hkP (hc.w w4)
  have hfT : T1.vm.findClass y.cls = some my.cls := by rw [hW1.alike.findClass]; exact findClass_of_methodNamed hnamed
  cases htc₁.symm.trans hfT
  have ht1 : t₁ = my := by
    have h1 : (s.setVm T1.vm).methodFound? y.cls y.name y.desc = some my := by rw [State.methodFound?_setVm hW1.alike]; exact State.methodFound?_of_named hnamed ⟨hd.1, hd.2.1⟩
    simp only [State.methodFound?, State.vm_setVm, hfT, htk₁, Option.bind_eq_bind, Option.bind_some] at h1
    rw [hlook₁] at h1
    exact Option.some.inj h1
  subst ht1
  have hmethT₁ : T1.vm.method? t₁ = some methM := by rw [hW1.alike.method?]; exact hmethM
  obtain ⟨kT₁, hkT₁, heT₁⟩ := hW1.alike.2.2 _ _ hkP
  cases htk₁.symm.trans hkT₁
  have hsp : ∀ z : Method, signaturePolymorphic tk₁ z = false := signaturePolymorphic_of_name (by rw [heT₁]; show kP.name ≠ _ ∧ kP.name ≠ _; rw [hkPn]; exact ⟨hd.1, hd.2.1⟩)
  obtain ⟨b, hmem⟩ := memberRef_ask' (e := e) (vm := T1.vm) (d := cK) (index := im) hkK₁ hfile₁ (Or.inl hpool₁) hpnt₁
  have hK : Back l R' p e below' B a' y 3 8 (PreOf R' mc ms (kPc G As bsC H.size)) (PostOf (kQc G Qp (kA bsC H.size)) mc ms (kA bsC H.size)) := by
    refine back_of (bytes := bytesY) (maxL := maxL) (ret := retc) (hM H.size) kPc_blind rfl rfl hR.1 hR.2.1 (fun w hw a' U hW => ?_) List.mem_cons_self (fun a' U hW => ?_)
    · exact word_at (State.WarmedH.trans hB hW) ((lw_meth w5) w hw).2 (hc.w ((lw_meth w5) w hw).1)
    · exact word_at (State.WarmedH.trans hB hW) (Or.inl (by first | rfl | simp [Cond.onTables, Cond.keeps, Cond.steady])) (hc.w w4)
  have hnamedT : T1.methodNamed? y = some t₁ := by
    have h2 := State.methodNamed?_setVm (s := s) hW1.alike y
    rw [hnamed] at h2
    exact h2
  have hlen : As.length = methM.sig.parameters.length := by
    have h9 := hd.2.2
    rw [hsigM] at h9
    rw [hn]
    exact (Option.some.inj h9).symm
  obtain ⟨v, ⟨U', l2, c2, s2⟩, X', ⟨g', mk', t, L, e1, e2, hq, h1, hLf, h2, h3⟩, hsteps⟩ := hK ⟨cK, 1⟩ methk ck ⟨T1, [], 0, 0⟩ (F0 ⟨cK, 1⟩ pc ls rest) (.invokestatic im) t₁ As.toArray X1 rfl (hls.trans hml.symm) (by rw [hbk]; exact hdg) (lv_room (rest := rest) hst) hnamedT ⟨hR.2.2.1, hR.2.2.2, hPc T1 hT1 hW1⟩
  dsimp only [Pt.U, Pt.locs, Pt.cells, Pt.slots] at X' e1 e2 h1 h2 h3 hsteps hq
  subst h1; subst h2; subst h3
  refine ⟨v, _, t, U', l2, hT1, X', hLf, e1, e2, hq, fun target hh => ?_⟩
  jvm_step X1.here [hc.1, hbk, hdg, invokestatic.wp_ready (e := e) (s := T1) (m := t₁) (k := tk₁) (meth := methM) (args := As) (rest := rest) (f := F0 ⟨cK, 1⟩ pc ls (As.reverse ++ rest)) X1.here.top ⟨ic, _, _, b, t₁.cls, tk₁, hmem, hclsR₁, htk₁, by simp [hsp]⟩ hready₁ htk₁ hmethT₁ (hsp _) hstatic (by rw [heT₁]; exact hinitP) hlen rfl]
  intro acts
  rw [doInvoke_state]
  exact hsteps.trans hh
/-- in the forwarder: what the lambda captured is read -/
theorem lm_get (hc : kC p s m args meth c cc nL ret own G A) {x0 : MethodName} {pc0 ix0 : Nat} {sg : Lambda.Shape} {cK : ClassId} {one : Option Nat} (hL : kLam s s.heap x0 pc0 ix0 sg cK one) {bytes : ByteArray} {im ic inn cn : Nat} (hok : lmOk sg x0.cls bytes im ic inn cn = true) {ty : FieldType} (hF : lmOkF sg x0.cls ty = true)
    {cell : Cell} {v0 : Value} (hcell : H[a]? = some cell) (hvm : cell.vm = .none) (hv0 : cell.slots[0]? = some v0) (wo : Cond.instantiable "java/lang/Object" 0 ∈ lw_all)
    {B : State} {a' : Array Value} {below' : List Frame} {methk : Method} {ck : Code} {R' : Room} (hB : s.WarmedH B.vm) (hbk : ck.code = bytes) (hdg : decode bytes pc = .ok (.getfield 15, 3))
    (kk : W p l e R' B ⟨cK, 1⟩ a' below' methk ck H locs cells slots Q (F0 ⟨cK, 1⟩ (pc + 3) ls (v0 :: rest))) : W p l e R' B ⟨cK, 1⟩ a' below' methk ck H locs cells slots Q (F0 ⟨cK, 1⟩ pc ls (.ref a :: rest)) := by
  intro T1 hT1 X1
  have hW1 : s.WarmedH T1.vm := State.WarmedH.trans hB X1.warmed
  obtain ⟨m0, k0, cf0, i0, p0, lk, hm0, hk0, hcf0, hsh0, hfind0, hmade, hcan, -, -⟩ := hL
  obtain ⟨k0', hk0', hname0⟩ := className_of_methodNamed hm0
  cases hk0.symm.trans hk0'
  obtain ⟨kD₁, hkD₁, heD₁⟩ := hW1.alike.2.2 _ _ hk0
  have hnameD₁ : kD₁.name = x0.cls := by rw [heD₁]; exact hname0
  obtain ⟨kK₁, tk₁, file₁, methk₁, ck₁, tc₁, t₁, hkK₁, -, -, -, -, -, -, -, -, -, -, -, -, -, -, -, -, hfld⟩ := lm_made hok hkD₁ hnameD₁ (Lambda.isMade_warmer hW1 hmade)
  have hO : ∀ o ok, T1.vm.findClass "java/lang/Object" = some o → T1.vm.classes[o]? = some ok → ok.instanceTypes.size = 0 := by
    intro o ok h1 h2
    obtain ⟨c9, k9, g1, g2, -, -, -, g3⟩ := Cond.instantiable_spec (hc.w wo)
    rw [hW1.alike.findClass, g1] at h1
    cases h1
    obtain ⟨k8, g4, g5⟩ := hW1.alike.2.2 _ _ g2
    cases h2.symm.trans g4
    rw [g5]
    exact g3
  obtain ⟨⟨f0, hf1, hf2, hf3⟩, -⟩ := hfld ty hF hO
  obtain ⟨t2, a1, b1⟩ := kk T1 hT1 X1
  refine ⟨t2, ?_, b1⟩
  jvm_step X1.here [hc.1, hbk, hdg, getfield.wp_ready (e := e) (s := T1) (c := cK) (field := f0) (a := a) (rest := rest) (cell := cell) (v := v0) (f := F0 ⟨cK, 1⟩ pc ls (.ref a :: rest)) X1.here.top hf1 hf2 rfl (by rw [hT1]; exact hcell) (by rw [hvm]; exact fun h => by cases h) (by rw [hf3]; exact hv0)]
  exact a1
/-- in the forwarder: the instance method that the lambda stands for is called -/
theorem lm_virt (hc : kC p s m args meth c cc nL ret own G A) {x0 : MethodName} {pc0 ix0 : Nat} {sg : Lambda.Shape} {cK : ClassId} {one : Option Nat} (hL : kLam s s.heap x0 pc0 ix0 sg cK one) {bytes : ByteArray} {im ic inn cn : Nat} (hok : lmOk sg x0.cls bytes im ic inn cn = true)
    {y : MethodName} (hy : sg.implClass = y.cls ∧ sg.implName = y.name ∧ sg.implDesc.toString = y.desc) {bytesY : ByteArray} {maxL fr lo mc ms n b : Nat} {retc : Option FieldType} {As : List Value} {bsC : List va_W} {Qp : Option Value → List va_W → Prop} (hM : KM l y bytesY maxL retc fr lo mc ms G (.ref b :: As) bsC Qp) (w2 : Cond.instanceMethod y ∈ lw_all) (w3 : Cond.selects y.cls y y ∈ lw_all) (w4 : Cond.initialized y.cls ∈ lw_all) (w6 : Cond.instantiable y.cls 6 ∈ lw_all) (w5 : Cond.code y bytesY maxL retc ∈ lw_all)
    (hd : y.cls ≠ "java/lang/invoke/MethodHandle" ∧ y.cls ≠ "java/lang/invoke/VarHandle" ∧ (parseMethodDescriptor y.desc).map (fun d => d.parameters.length) = some n) (hn : As.length = n) (hPc : ∀ U : State, U.heap = H → s.WarmedH U.vm → kPc G (.ref b :: As) bsC H.size (Value.ref b :: As).toArray U)
    (hrc : ∃ cell : Cell, H[b]? = some cell ∧ cell.vm.isStatics = false ∧ s.vm.findClass y.cls = some cell.cls)
    {B : State} {a' : Array Value} {below' : List Frame} {methk : Method} {ck : Code} {R' : Room} (hB : s.WarmedH B.vm) (hbk : ck.code = bytes) (hml : ck.maxLocals = 2) (hR : fr + 1 ≤ R'.frames ∧ 8 + (maxL + 11) + lo ≤ R'.locals ∧ 0 + mc ≤ R'.cells ∧ 0 + ms ≤ R'.slots) (hst : (rest.map fun v => v.category).sum ≤ 8) (hls : ls.size = 2) (hdg : decode bytes pc = .ok (.invokevirtual im, 3)) :
    va_Run p l e R' B ⟨cK, 1⟩ a' below' methk ck H [] 0 0 mc ms (F0 ⟨cK, 1⟩ pc ls (As.reverse ++ .ref b :: rest)) rest (kQc G Qp (kA bsC H.size) (Value.ref b :: As).toArray) (kA bsC H.size) := by
  intro T1 hT1 X1
  have hW1 : s.WarmedH T1.vm := State.WarmedH.trans hB X1.warmed
  obtain ⟨m0, k0, cf0, i0, p0, lk, hm0, hk0, hcf0, hsh0, hfind0, hmade, hcan, -, -⟩ := hL
  obtain ⟨k0', hk0', hname0⟩ := className_of_methodNamed hm0
  cases hk0.symm.trans hk0'
  obtain ⟨kD₁, hkD₁, heD₁⟩ := hW1.alike.2.2 _ _ hk0
  have hnameD₁ : kD₁.name = x0.cls := by rw [heD₁]; exact hname0
  obtain ⟨kK₁, tk₁, file₁, methk₁, ck₁, tc₁, t₁, hkK₁, hkn₁, hfile₁, hpool₁, hpnt₁, hmk₁, hck₁, hbytes₁, hml₁, hlk₁, hfl₁, hretk₁, htc₁, htk₁, hlook₁, hready₁, hclsR₁, -⟩ := lm_made hok hkD₁ hnameD₁ (Lambda.isMade_warmer hW1 hmade)
  obtain ⟨y1, y2, y3⟩ := hy
  rw [y1] at htc₁
  rw [y2, y3] at hlook₁ hpnt₁
  obtain ⟨my, methM, hnamed, hmethM, hstatic, habs⟩ := Cond.instanceMethod_spec (hc.w w2)
  obtain ⟨methM', cM, hmethM', -, -, -, -, -, -, hsigM⟩ := Cond.code_spec hnamed (hc.w w5)
  cases hmethM.symm.trans hmethM'
  obtain ⟨kP, hkP, hkPn⟩ := className_of_methodNamed hnamed
  have hfs : s.vm.findClass y.cls = some my.cls := findClass_of_methodNamed hnamed
  have hfT : T1.vm.findClass y.cls = some my.cls := by rw [hW1.alike.findClass]; exact hfs
  cases htc₁.symm.trans hfT
  have ht1 : t₁ = my := by
    have h1 : (s.setVm T1.vm).methodFound? y.cls y.name y.desc = some my := by rw [State.methodFound?_setVm hW1.alike]; exact State.methodFound?_of_named hnamed ⟨hd.1, hd.2.1⟩
    simp only [State.methodFound?, State.vm_setVm, hfT, htk₁, Option.bind_eq_bind, Option.bind_some] at h1
    rw [hlook₁] at h1
    exact Option.some.inj h1
  subst ht1
  have hmethT₁ : T1.vm.method? t₁ = some methM := by rw [hW1.alike.method?]; exact hmethM
  obtain ⟨kT₁, hkT₁, heT₁⟩ := hW1.alike.2.2 _ _ hkP
  cases htk₁.symm.trans hkT₁
  have hitf : tk₁.isInterface = false := by
    obtain ⟨c9, k9, g1, g2, g3, g4, -⟩ := Cond.instantiable_spec (hc.w w6)
    cases hfs.symm.trans g1
    cases hkP.symm.trans g2
    rw [heT₁]
    simp only [Bool.or_eq_false_iff] at g4
    exact g4.1
  have hsp : ∀ z : Method, signaturePolymorphic tk₁ z = false := signaturePolymorphic_of_name (by rw [heT₁]; show kP.name ≠ _ ∧ kP.name ≠ _; rw [hkPn]; exact ⟨hd.1, hd.2.1⟩)
  obtain ⟨c2, r2, m2, q1, q2, q3, q4, -⟩ := Cond.selects_spec (hc.w w3)
  cases hfs.symm.trans q1
  cases (State.methodFound?_of_named hnamed ⟨hd.1, hd.2.1⟩).symm.trans q2
  cases hnamed.symm.trans q3
  obtain ⟨cellB, hb1, hb2, hb3⟩ := hrc
  have hcb : cellB.cls = t₁.cls := Option.some.inj (hb3.symm.trans hfs)
  have hselP : selectMethod e.platform T1.vm cellB.cls t₁ = .method t₁ := by rw [hcb, hW1.alike.selectMethod, Launch.admits_selectMethod X1.admits]; exact q4
  have hK : Back l R' p e below' B a' y 3 8 (PreOf R' mc ms (kPc G (.ref b :: As) bsC H.size)) (PostOf (kQc G Qp (kA bsC H.size)) mc ms (kA bsC H.size)) := by
    refine back_of (bytes := bytesY) (maxL := maxL) (ret := retc) (hM H.size) kPc_blind rfl rfl hR.1 hR.2.1 (fun w hw a' U hW => ?_) List.mem_cons_self (fun a' U hW => ?_)
    · exact word_at (State.WarmedH.trans hB hW) ((lw_meth w5) w hw).2 (hc.w ((lw_meth w5) w hw).1)
    · exact word_at (State.WarmedH.trans hB hW) (Or.inl (by first | rfl | simp [Cond.onTables, Cond.keeps, Cond.steady])) (hc.w w4)
  have hnamedT : T1.methodNamed? y = some t₁ := by
    have h2 := State.methodNamed?_setVm (s := s) hW1.alike y
    rw [hnamed] at h2
    exact h2
  have hlen : As.length = methM.sig.parameters.length := by
    have h9 := hd.2.2
    rw [hsigM] at h9
    rw [hn]
    exact (Option.some.inj h9).symm
  obtain ⟨v, ⟨U', l2, c3, s3⟩, X', ⟨g', mk', t, L, e1, e2, hq, h1, hLf, h2, h3⟩, hsteps⟩ := hK ⟨cK, 1⟩ methk ck ⟨T1, [], 0, 0⟩ (F0 ⟨cK, 1⟩ pc ls rest) (.invokevirtual im) t₁ (Value.ref b :: As).toArray X1 rfl (hls.trans hml.symm) (by rw [hbk]; exact hdg) (lv_room (rest := rest) hst) hnamedT ⟨hR.2.2.1, hR.2.2.2, hPc T1 hT1 hW1⟩
  dsimp only [Pt.U, Pt.locs, Pt.cells, Pt.slots] at X' e1 e2 h1 h2 h3 hsteps hq
  subst h1; subst h2; subst h3
  refine ⟨v, _, t, U', l2, hT1, X', hLf, e1, e2, hq, fun target hh => ?_⟩
  jvm_step X1.here [hc.1, hbk, hdg, invokevirtual.wp_ready (e := e) (s := T1) (r := t₁) (m := t₁) (k := tk₁) (mk := tk₁) (rmeth := methM) (meth := methM) (a := b) (args := As) (rest := rest) (cell := cellB) (f := F0 ⟨cK, 1⟩ pc ls (As.reverse ++ .ref b :: rest)) X1.here.top ⟨kK₁, file₁, ic, inn, t₁.cls, tk₁, hkK₁, hfile₁, hpool₁, hclsR₁, htk₁, hitf⟩ hready₁ htk₁ hmethT₁ (hsp _) hstatic hlen rfl (by rw [hT1]; exact hb1) (fun z h => by rw [h] at hb2; cases hb2) hselP hmethT₁ habs htk₁ hitf]
  intro acts
  rw [doInvoke_state]
  exact hsteps.trans hh
theorem fw0_0 : decode fwc0 0 = .ok (.aload_n 1, 1) := by decide +kernel
theorem fw0_1 : decode fwc0 1 = .ok (.invokestatic 17, 3) := by decide +kernel
theorem fw0_4 : decode fwc0 4 = .ok (.ireturn, 1) := by decide +kernel
theorem fw1_0 : decode fwc1 0 = .ok (.aload_n 0, 1) := by decide +kernel
theorem fw1_1 : decode fwc1 1 = .ok (.getfield 15, 3) := by decide +kernel
theorem fw1_4 : decode fwc1 4 = .ok (.aload_n 1, 1) := by decide +kernel
theorem fw1_5 : decode fwc1 5 = .ok (.invokestatic 23, 3) := by decide +kernel
theorem fw1_8 : decode fwc1 8 = .ok (.ireturn, 1) := by decide +kernel
theorem fw4_0 : decode fwc4 0 = .ok (.aload_n 0, 1) := by decide +kernel
theorem fw4_1 : decode fwc4 1 = .ok (.getfield 15, 3) := by decide +kernel
theorem fw4_4 : decode fwc4 4 = .ok (.aload_n 1, 1) := by decide +kernel
theorem fw4_5 : decode fwc4 5 = .ok (.invokevirtual 22, 3) := by decide +kernel
theorem fw4_8 : decode fwc4 8 = .ok (.ireturn, 1) := by decide +kernel
/-- the forwarder returns what the method answered -/
theorem lm_end (hx : p.tables.exec = Jvm.exec) {bytes : ByteArray} {B : State} {mk : MethodId} {a' aa : Array Value} {below' : List Frame} {methk : Method} {ck : Code} {R' : Room} {bsC bs2 : List va_W} {bb : Bool} {rest0 st0 : List Value} (hBh : B.heap = H) (hbk : ck.code = bytes) (hret : methk.sig.returnType = some .boolean) (hlk : methk.locks = false) (hdg : decode bytes (pc + 3) = .ok (.ireturn, 1))
    (hr : va_Run p l e R' B mk a' below' methk ck H [] 0 0 0 0 (F0 mk pc ls st0) [] (kQc G (kDet (some (.int (bI bb))) bs2) (kA bsC H.size) aa) (kA bsC H.size)) : W p l e R' B mk a' below' methk ck H [] 0 0 (MQ below' (kQc G (kDet (some (.int (bI bb))) bs2) (kA bsC H.size)) a' B 0 0 (kA bsC H.size)) (F0 mk pc ls st0) := by
  intro T hT X
  obtain ⟨v, st₀, t, T', L, h0, X', hLf, e1, e2, ⟨⟨v', b', hv, ⟨hv1, hb1⟩, hk⟩, hF⟩, st⟩ := hr T hT X
  cases hv
  subst hv1
  rw [hb1] at hk
  obtain ⟨t2, a1, b1⟩ := (W.zret (p := p) (l := l) (e := e) (R := R') (s := B) (m := mk) (args := a') (below := below') (meth := methk) (c := ck) (H := T'.heap) (locs := [] ++ L) (cells := 0 + 0) (slots := 0 + 0) (Qc := kQc G (kDet (some (.int (bI bb))) bs2) (kA bsC H.size)) (free := kA bsC H.size) (ls := ls) hx hbk hret (bI_nar bb) (fun t3 ht3 _ => ⟨⟨_, bs2, rfl, ⟨rfl, rfl⟩, by rw [ht3, e1]; exact hk⟩, by
    obtain ⟨f1, f2⟩ := hF
    rw [h0] at f1 f2
    unfold va_F
    rw [hBh, ht3, e1]
    exact ⟨f1, f2⟩⟩) hLf hdg hlk) T' rfl X'
  exact ⟨t2, st t2 a1, b1⟩
theorem lm_entry {mk : MethodId} {x y : Nat} : ∃ ls0 : Array Slot, entryFrame mk #[.ref x, .ref y] 2 = F0 mk 0 ls0 [] ∧ lv_has ls0 2 [(0, .ref x), (1, .ref y)] := by
  have h := lv_entry [.ref x, .ref y] (n := 2) (Nat.le_refl 2)
  have e := lg_entry_eq (m := mk) (vs := [.ref x, .ref y]) (n := 2)
  exact ⟨_, e, h⟩
/-- the object of a site at the walk's heap -/
def kSiteAt (i : Nat) : MethodName × Nat × Nat × Lambda.Shape := kSites.getD i (⟨"", "", ""⟩, 0, 0, sg0)
theorem k_lamC (hc : kC p s m args meth c cc nL ret own G A) (hO : kW G s A bs H locs) : H[G.2.2 3]? = some (arrV (G.2.1 10) 0 (fun _ => .int 0)) := by
  obtain ⟨h1, -, h2⟩ := hc.lams
  obtain ⟨m0, k0, cf0, i0, p0, lk, hm0, hk0, hcf0, hsh0, hfind0, hmade, hcan, h3, -⟩ := h2 0 _ rfl
  have h4 := (h3 (G.2.2 3) rfl).2
  have hl : G.2.2 3 < s.heap.size := by
    rcases Nat.lt_or_ge (G.2.2 3) s.heap.size with z | z
    · exact z
    · rw [Array.getElem?_eq_none z] at h4; cases h4
  rw [hO.2.2.1 _ hl fun z => by have := hc.2.2.2.2.2.2.2.2.2 _ z; omega]
  exact h4
/-- a call of the object that captured nothing -/
theorem k_lam0 {bsC bsR : List va_W} {bs2 : List va_W} {bb : Bool} {y : MethodName} {bytesY : ByteArray} {maxL fr lo index count b : Nat} {v2 : List Value} (hc : kC p s m args meth c cc nL ret own G A) (hO : kW G s A bs H locs) (hl : lv_has ls nL lv) (hM : KM l y bytesY maxL (some .boolean) fr lo 0 0 G [.ref b] bsC (kDet (some (.int (bI bb))) bs2)) (hy : sg0.implClass = y.cls ∧ sg0.implName = y.name ∧ sg0.implDesc.toString = y.desc)
    (w1 : Cond.methodLink own index kxIs ∈ lw_all) (w2 : Cond.static y ∈ lw_all) (w4 : Cond.initialized y.cls ∈ lw_all) (w5 : Cond.code y bytesY maxL (some .boolean) ∈ lw_all) (hd : y.cls ≠ "java/lang/invoke/MethodHandle" ∧ y.cls ≠ "java/lang/invoke/VarHandle" ∧ (parseMethodDescriptor y.desc).map (fun d => d.parameters.length) = some 1) (hp : kO G A (bsC ++ bsR) H)
    (hR : (fr + 1) + 1 ≤ R.frames ∧ 8 + (2 + 11) + (8 + (maxL + 11) + lo) ≤ R.locals ∧ cells + 0 ≤ R.cells ∧ slots + 0 ≤ R.slots) (hst : (rest.map fun v => v.category).sum ≤ 8) (hdg : decode cc pc = .ok (.invokeinterface index count, 5))
    (kk : ∀ (H1 : Heap) (locs1 : List Loc), kW G s A (bs2 ++ bsR) H1 locs1 → W p l e R s m args below meth c H1 locs1 cells slots Q (F0 m (pc + 5) ls (.int (bI bb) :: rest))) : W p l e R s m args below meth c H locs cells slots Q (F0 m pc ls (.ref b :: .ref (G.2.2 3) :: rest)) := by
  have hL := hc.lams.2.2 0 _ rfl
  refine k_go5 (aa := #[.ref b]) hc hO hp (lm_run hc hl hL lmOk0 ⟨rfl, rfl, by decide +kernel⟩ (by decide +kernel) (k_lamC hc hO) rfl rfl w1 (fr := fr + 1) (lo := 8 + (maxL + 11) + lo) (mc := 0) (ms := 0) (Qc := kQc G (kDet (some (.int (bI bb))) bs2) (kA bsC H.size)) (free := kA bsC H.size) hR hst hdg (fun B mk below' methk ck hBh hB hmk hbk hml hlk hret => ?_) _ (fun _ _ _ _ h => h)) (fun v' b' H1 locs1 hq h1 => ?_)
  · subst hmk
    obtain ⟨ls0, e0, hl0⟩ := lm_entry (mk := ⟨G.2.1 10, 1⟩) (x := G.2.2 3) (y := b)
    rw [e0]
    refine lv_aload_n hc.1 hbk fw0_0 rfl (lv_at hl0 1 rfl) ?_
    exact lm_end (rest0 := []) hc.1 hBh hbk hret hlk fw0_4 (lm_stat (rest := []) (As := [.ref b]) hc hL lmOk0 hy hM w2 w4 w5 hd rfl (k_pre hc hO hp) hB hbk hml ⟨Nat.le_refl _, Nat.le_refl _, Nat.le_refl _, Nat.le_refl _⟩ (Nat.zero_le _) hl0.1 fw0_1)
  · obtain ⟨rfl, rfl⟩ := hq
    exact kk H1 locs1 h1
/-- a call of an object that captured one value -/
theorem k_lamS {bsC bsR : List va_W} {bs2 : List va_W} {bb : Bool} {y : MethodName} {bytesY : ByteArray} {maxL fr lo index count b x : Nat} {v0 : Value} (hc : kC p s m args meth c cc nL ret own G A) (hO : kW G s A bs H locs) (hl : lv_has ls nL lv) {x0 : MethodName} {pc0 ix0 : Nat} {sg : Lambda.Shape} {cK : ClassId} {one : Option Nat} (hL : kLam s s.heap x0 pc0 ix0 sg cK one) (hok : lmOk sg x0.cls fwc1 23 19 22 18 = true) (hsg : sg.iface = "CanalSteps$Choice" ∧ sg.name = "is" ∧ sg.sam.toString = "(LCanalSteps$Boat;)Z") (hpl : plainName (x0.cls ++ "$$Lambda") = true) {ty : FieldType} (hF : lmOkF sg x0.cls ty = true)
    (hM : KM l y bytesY maxL (some .boolean) fr lo 0 0 G [v0, .ref b] bsC (kDet (some (.int (bI bb))) bs2)) (hy : sg.implClass = y.cls ∧ sg.implName = y.name ∧ sg.implDesc.toString = y.desc) {cell : Cell} (hcell : H[x]? = some cell) (hcls : cell.cls = cK) (hvm : cell.vm = .none) (hv0 : cell.slots[0]? = some v0)
    (w1 : Cond.methodLink own index kxIs ∈ lw_all) (w2 : Cond.static y ∈ lw_all) (w4 : Cond.initialized y.cls ∈ lw_all) (w5 : Cond.code y bytesY maxL (some .boolean) ∈ lw_all) (wo : Cond.instantiable "java/lang/Object" 0 ∈ lw_all) (hd : y.cls ≠ "java/lang/invoke/MethodHandle" ∧ y.cls ≠ "java/lang/invoke/VarHandle" ∧ (parseMethodDescriptor y.desc).map (fun d => d.parameters.length) = some 2) (hp : kO G A (bsC ++ bsR) H)
    (hR : (fr + 1) + 1 ≤ R.frames ∧ 8 + (2 + 11) + (8 + (maxL + 11) + lo) ≤ R.locals ∧ cells + 0 ≤ R.cells ∧ slots + 0 ≤ R.slots) (hst : (rest.map fun v => v.category).sum ≤ 8) (hdg : decode cc pc = .ok (.invokeinterface index count, 5))
    (kk : ∀ (H1 : Heap) (locs1 : List Loc), kW G s A (bs2 ++ bsR) H1 locs1 → W p l e R s m args below meth c H1 locs1 cells slots Q (F0 m (pc + 5) ls (.int (bI bb) :: rest))) : W p l e R s m args below meth c H locs cells slots Q (F0 m pc ls (.ref b :: .ref x :: rest)) := by
  refine k_go5 (aa := #[.ref b]) hc hO hp (lm_run hc hl hL hok hsg hpl hcell hcls hvm w1 (fr := fr + 1) (lo := 8 + (maxL + 11) + lo) (mc := 0) (ms := 0) (Qc := kQc G (kDet (some (.int (bI bb))) bs2) (kA bsC H.size)) (free := kA bsC H.size) hR hst hdg (fun B mk below' methk ck hBh hB hmk hbk hml hlk hret => ?_) _ (fun _ _ _ _ h => h)) (fun v' b' H1 locs1 hq h1 => ?_)
  · subst hmk
    obtain ⟨ls0, e0, hl0⟩ := lm_entry (mk := ⟨cK, 1⟩) (x := x) (y := b)
    rw [e0]
    refine lv_aload_n hc.1 hbk fw1_0 rfl (lv_at hl0 0 rfl) ?_
    refine lm_get hc hL hok hF hcell hvm hv0 wo hB hbk fw1_1 ?_
    refine lv_aload_n hc.1 hbk fw1_4 rfl (lv_at hl0 1 rfl) ?_
    exact lm_end (rest0 := []) hc.1 hBh hbk hret hlk fw1_8 (lm_stat (rest := []) (As := [v0, .ref b]) hc hL hok hy hM w2 w4 w5 hd rfl (k_pre hc hO hp) hB hbk hml ⟨Nat.le_refl _, Nat.le_refl _, Nat.le_refl _, Nat.le_refl _⟩ (Nat.zero_le _) hl0.1 fw1_5)
  · obtain ⟨rfl, rfl⟩ := hq
    exact kk H1 locs1 h1
/-- a call of an object that captured one value -/
theorem k_lamV {bsC bsR : List va_W} {bs2 : List va_W} {bb : Bool} {y : MethodName} {bytesY : ByteArray} {maxL fr lo index count b x : Nat} {b0 : Nat} (hc : kC p s m args meth c cc nL ret own G A) (hO : kW G s A bs H locs) (hl : lv_has ls nL lv) {x0 : MethodName} {pc0 ix0 : Nat} {sg : Lambda.Shape} {cK : ClassId} {one : Option Nat} (hL : kLam s s.heap x0 pc0 ix0 sg cK one) (hok : lmOk sg x0.cls fwc4 22 19 21 18 = true) (hsg : sg.iface = "CanalSteps$Choice" ∧ sg.name = "is" ∧ sg.sam.toString = "(LCanalSteps$Boat;)Z") (hpl : plainName (x0.cls ++ "$$Lambda") = true) {ty : FieldType} (hF : lmOkF sg x0.cls ty = true)
    (hM : KM l y bytesY maxL (some .boolean) fr lo 0 0 G [.ref b0, .ref b] bsC (kDet (some (.int (bI bb))) bs2)) (hy : sg.implClass = y.cls ∧ sg.implName = y.name ∧ sg.implDesc.toString = y.desc) {cell : Cell} (hcell : H[x]? = some cell) (hcls : cell.cls = cK) (hvm : cell.vm = .none) (hv0 : cell.slots[0]? = some (.ref b0))
    (w1 : Cond.methodLink own index kxIs ∈ lw_all) (w2 : Cond.instanceMethod y ∈ lw_all) (w3 : Cond.selects y.cls y y ∈ lw_all) (w4 : Cond.initialized y.cls ∈ lw_all) (w6 : Cond.instantiable y.cls 6 ∈ lw_all) (w5 : Cond.code y bytesY maxL (some .boolean) ∈ lw_all) (wo : Cond.instantiable "java/lang/Object" 0 ∈ lw_all) (hd : y.cls ≠ "java/lang/invoke/MethodHandle" ∧ y.cls ≠ "java/lang/invoke/VarHandle" ∧ (parseMethodDescriptor y.desc).map (fun d => d.parameters.length) = some 1) {ci : Nat} {q : vw_C} (hcl : kCL[ci]? = some q) (hqc : q.1 = y.cls) (hrv : kRecv bsC b0 ci) (hp : kO G A (bsC ++ bsR) H)
    (hR : (fr + 1) + 1 ≤ R.frames ∧ 8 + (2 + 11) + (8 + (maxL + 11) + lo) ≤ R.locals ∧ cells + 0 ≤ R.cells ∧ slots + 0 ≤ R.slots) (hst : (rest.map fun v => v.category).sum ≤ 8) (hdg : decode cc pc = .ok (.invokeinterface index count, 5))
    (kk : ∀ (H1 : Heap) (locs1 : List Loc), kW G s A (bs2 ++ bsR) H1 locs1 → W p l e R s m args below meth c H1 locs1 cells slots Q (F0 m (pc + 5) ls (.int (bI bb) :: rest))) : W p l e R s m args below meth c H locs cells slots Q (F0 m pc ls (.ref b :: .ref x :: rest)) := by
  refine k_go5 (aa := #[.ref b]) hc hO hp (lm_run hc hl hL hok hsg hpl hcell hcls hvm w1 (fr := fr + 1) (lo := 8 + (maxL + 11) + lo) (mc := 0) (ms := 0) (Qc := kQc G (kDet (some (.int (bI bb))) bs2) (kA bsC H.size)) (free := kA bsC H.size) hR hst hdg (fun B mk below' methk ck hBh hB hmk hbk hml hlk hret => ?_) _ (fun _ _ _ _ h => h)) (fun v' b' H1 locs1 hq h1 => ?_)
  · subst hmk
    obtain ⟨ls0, e0, hl0⟩ := lm_entry (mk := ⟨cK, 1⟩) (x := x) (y := b)
    rw [e0]
    refine lv_aload_n hc.1 hbk fw4_0 rfl (lv_at hl0 0 rfl) ?_
    refine lm_get hc hL hok hF hcell hvm hv0 wo hB hbk fw4_1 ?_
    refine lv_aload_n hc.1 hbk fw4_4 rfl (lv_at hl0 1 rfl) ?_
    exact lm_end (rest0 := []) hc.1 hBh hbk hret hlk fw4_8 (lm_virt (rest := []) (b := b0) (As := [.ref b]) hc hL hok hy hM w2 w3 w4 w6 w5 hd rfl (k_pre hc hO hp) (by have h9 := hrv.recv hc hp hcl; rw [hqc] at h9; exact h9) hB hbk hml ⟨Nat.le_refl _, Nat.le_refl _, Nat.le_refl _, Nat.le_refl _⟩ (Nat.zero_le _) hl0.1 fw4_5)
  · obtain ⟨rfl, rfl⟩ := hq
    exact kk H1 locs1 h1
theorem lm_words (hX : l.admits e) : e.platform.lambdaLinkWords = 3072 := by rw [hX.platform]
/-- the site's instruction, nothing captured: the one object -/
theorem k_indy0 (hc : kC p s m args meth c cc nL ret own G A) (hl : lv_has ls nL lv) {x0 : MethodName} {pc0 ix0 : Nat} {sg : Lambda.Shape} {cK : ClassId} (hL : kLam s s.heap x0 pc0 ix0 sg cK (some a)) (hnm : s.methodNamed? x0 = some m) (hdg : decode cc pc0 = .ok (.invokedynamic ix0, 5)) (hw : (rest.map fun v => v.category).sum + 3072 ≤ R.locals)
    (kk : W p l e R s m args below meth c H locs cells slots Q (F0 m (pc0 + 5) ls (.ref a :: rest))) : W p l e R s m args below meth c H locs cells slots Q (F0 m pc0 ls rest) := by
  intro T hT X
  obtain ⟨m0, k0, cf0, i0, p0, lk, hm0, hk0, hcf0, hsh0, hfind0, hmade, hcan, h1, -⟩ := hL
  cases hnm.symm.trans hm0
  obtain ⟨rfl, -⟩ := h1 a rfl
  obtain ⟨t, a1, b1⟩ := kk T hT X
  have hwd : 2 * (F0 m pc0 ls rest).monitorRoom + ((F0 m pc0 ls rest).stack.map fun v => v.category).sum + e.platform.lambdaLinkWords ≤ R.locals := by
    rw [lm_words X.admits]
    have : (F0 m pc0 ls rest).monitorRoom = 0 := rfl
    rw [this]
    dsimp only
    omega
  exact ⟨t, X.lambdaConstant hc.1 (g := F0 m pc0 ls rest) rfl (hl.1.trans hc.2.2.2.1.symm) (by rw [hc.2.1]; exact hdg) hk0 hfind0 hwd a1, b1⟩
/-- the site's instruction, one value captured: a new object holds it -/
theorem k_indy1 (hc : kC p s m args meth c cc nL ret own G A) (hO : kW G s A bs H locs) (hl : lv_has ls nL lv) {x0 : MethodName} {pc0 ix0 : Nat} {sg : Lambda.Shape} {cK : ClassId} (hL : kLam s s.heap x0 pc0 ix0 sg cK none) (hnm : s.methodNamed? x0 = some m) {bytes : ByteArray} {im ic inn cn : Nat} (hok : lmOk sg x0.cls bytes im ic inn cn = true) {ty : FieldType} (hF : lmOkF sg x0.cls ty = true) (hcap : sg.captured = [ty]) (wo : Cond.instantiable "java/lang/Object" 0 ∈ lw_all)
    {v : Value} (pay : vp_A) (hpay : vp_cell cK pay = { cls := cK, slots := #[v], vm := .none }) (hn : narrow ty v = v) (hfit : fits ty v = true) (hdg : decode cc pc0 = .ok (.invokedynamic ix0, 5)) (hw : ((v :: rest).map fun v => v.category).sum + 3072 ≤ R.locals) (hcells : cells + 1 ≤ R.cells) (hslots : slots + 1 ≤ R.slots)
    (kk : ∀ (q : Nat) (H1 : Heap), kW G s A (bs ++ [[(q, .inl (cK, pay))]]) H1 locs → W p l e R s m args below meth c H1 locs (cells + 1) (slots + 1) Q (F0 m (pc0 + 5) ls (.ref q :: rest))) : W p l e R s m args below meth c H locs cells slots Q (F0 m pc0 ls (v :: rest)) := by
  intro T hT X
  obtain ⟨m0, k0, cf0, i0, p0, lk, hm0, hk0, hcf0, hsh0, hfind0, hmade, hcan, -, h2⟩ := hL
  cases hnm.symm.trans hm0
  obtain rfl := h2 rfl
  obtain ⟨bsm, nt, name, desc, site, hp1, hp2, hp3, hp4⟩ := lm_shape hsh0
  obtain ⟨k0', hk0', hname0⟩ := className_of_methodNamed hm0
  cases hk0.symm.trans hk0'
  obtain ⟨kK, tk, file, methk, ck, tc, t0, hkK, -, -, -, -, -, -, -, -, -, -, -, -, -, -, -, -, hfld⟩ := lm_made hok hk0 hname0 hmade
  have hO' : ∀ o ok, s.vm.findClass "java/lang/Object" = some o → s.vm.classes[o]? = some ok → ok.instanceTypes.size = 0 := by
    intro o ok h1 h2
    obtain ⟨c9, k9, g1, g2, -, -, -, g3⟩ := Cond.instantiable_spec (hc.w wo)
    cases h1.symm.trans g1
    cases h2.symm.trans g2
    exact g3
  obtain ⟨-, hty, hkind⟩ := hfld ty hF hO'
  have hsl : ((kK.instanceTypes.toList.zip [v]).map fun (t, v) => narrow t v) = [v] := by rw [hty]; simp [hn]
  have hwd : 2 * (F0 m pc0 ls (v :: rest)).monitorRoom + ((F0 m pc0 ls (v :: rest)).stack.map fun v => v.category).sum + e.platform.lambdaLinkWords ≤ R.locals := by
    rw [lm_words X.admits]
    have : (F0 m pc0 ls (v :: rest)).monitorRoom = 0 := rfl
    rw [this]
    dsimp only
    omega
  obtain ⟨X₁, st1⟩ := X.lambdaMakes hc.1 (g := F0 m pc0 ls (v :: rest)) rfl (hl.1.trans hc.2.2.2.1.symm) (by rw [hc.2.1]; exact hdg) (vals := [v]) (rest := rest) hk0 hfind0 hcf0 hp1 hp2 (parseLong_of_parse hp3) (by rw [← hp4, hcap]; rfl) rfl hkK hwd hcells (by rw [hsl]; exact hslots) (fun i w hv => by
    rw [hsl] at hv
    cases i with
    | zero => simp at hv; subst hv; simp [State.fitsSlot, State.slotType?, hkK, hkind, hty, hfit]
    | succ j => simp at hv)
  rw [hsl] at X₁ st1
  have hsz : (T.pushCell { cls := cK, slots := #[v], vm := .none }).heap = H.push { cls := cK, slots := #[v], vm := .none } := by rw [← hT]; rfl
  have e3 : ∀ q : Nat, q < H.size → (H.push ({ cls := cK, slots := #[v], vm := .none } : Cell))[q]? = H[q]? := fun q hq => by
    rw [Array.getElem?_push_lt hq, Array.getElem?_eq_getElem hq]
  have e1 : (H.push ({ cls := cK, slots := #[v], vm := .none } : Cell))[H.size]? = some { cls := cK, slots := #[v], vm := .none } := Array.getElem?_push_size
  have hW1 : kW G s A (bs ++ [[(H.size, .inl (cK, pay))]]) (H.push { cls := cK, slots := #[v], vm := .none }) locs := by
    refine ⟨kO.of ?_ ?_, ?_⟩
    · rw [List.flatten_append]
      refine va_P.app (hO.1.P.kept fun k q hk => e3 _ (hO.1.P k q hk).lt) ?_
      intro k q hk
      match k, hk with
      | 0, hk =>
        cases hk
        show (H.push _)[H.size]? = some (vp_cell _ _)
        rw [hpay]
        exact e1
      | k + 1, hk => simp at hk
    · rw [List.flatten_append]
      exact hO.1.D.push hO.1.P rfl (hc.hA _ hO.2.1)
    · exact ⟨by rw [Array.size_push]; exact Nat.le_succ_of_le hO.2.1, fun q h1 h2 => by rw [e3 q (Nat.lt_of_lt_of_le h1 hO.2.1)]; exact hO.2.2.1 q h1 h2, hO.2.2.2⟩
  obtain ⟨t, a1, b1⟩ := kk H.size _ hW1 (T.pushCell { cls := cK, slots := #[v], vm := .none }) hsz X₁
  refine ⟨t, st1 t ?_, b1⟩
  rw [hT]
  exact a1
end KLAM
/-- a contract whose walk knows its method's name -/
theorem KM.ofN {l : Launch} {y : MethodName} {cc : ByteArray} {nL : Nat} {ret : Option FieldType} {fr lo mc ms : Nat} {G : KG} {av : List Value} {bs : List va_W} {Qp : Option Value → List va_W → Prop} {own : String}
    (hy : plainName y.cls = true) (ho : y.cls = own) (hlen : (lg_sl av).length ≤ nL)
    (body : ∀ (p : Program) (e : Env) (s : State) (m : MethodId) (args : Array Value) (below : List Frame) (meth : Method) (c : Code) (A : Nat → Prop) (ls : Array Slot) (H : Heap), kC p s m args meth c cc nL ret own G A → s.methodNamed? y = some m → kW G s A bs H [] → lv_has ls nL (lv_args 0 av) →
      W p l e ({ frames := fr, cells := mc, slots := ms, locals := lo } : Room) s m args below meth c H [] 0 0 (KQ G A Qp below args s mc ms) (F0 m 0 ls [])) : KM l y cc nL ret fr lo mc ms G av bs Qp := by
  intro sz
  refine Met.ofW (cc := cc) (maxL := nL) (ret := ret) hy rfl ?_
  intro p e s m args below meth c s₁ B hml hv
  obtain ⟨rfl, hsz, hG, hB, hO⟩ := hv
  have hts := atoms_spec (ws := ws_ y cc nL ret) B.pre
  have hts : ∀ w ∈ lw_all, w.before _ s = true := fun w h => hts w (List.mem_cons_of_mem _ h)
  have hown : s.vm.findClass own = some m.cls := by rw [← ho]; exact findClass_of_methodNamed B.named
  have hin : s.methodNamed? y = some m := B.named
  subst hsz
  have hl := lv_entry av (n := nL) hlen
  rw [lg_entry_eq]
  refine body p e s m _ below meth c (kA bs s.heap.size) _ s.heap ⟨B.exec, B.bytes, B.returns, hml, hown, hts, B.notSynchronized, hG, fun q h => Or.inr h, ?_⟩ hin ⟨hO.weaken fun q hq _ => Or.inl (List.mem_map.mpr ⟨q, hq, rfl⟩), va_S.rf⟩ hl
  intro q hq
  rcases hq with hq | hq
  · obtain ⟨z, hz, rfl⟩ := List.mem_map.mp hq
    exact hO.2.2 z hz
  · omega
