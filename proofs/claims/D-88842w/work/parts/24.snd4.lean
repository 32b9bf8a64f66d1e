/-! soundness, 4: calls: the way to the callee; the callee's end, by value or by exception -/
set_option maxRecDepth 100000
def sArr (p : Program) (l : Launch) (e : Env) (R : Room) (s : State) (m : MethodId) (args : Array Value) (below : List Frame) (meth : Method) (c : Code) (T : State) (locs : List Loc) (cells slots : Nat) (g : JFrame) (rest : List Value) (z : MethodName) (av : Array Value) : Prop :=
  ∃ (vm₁ : Vm) (mk : MethodId), Stand p l e R s m args below meth c (T.setVm vm₁) locs cells slots ∧ s.methodNamed? z = some mk ∧ ∀ target, (∀ acts, Steps p.tables e below (doInvoke e ((T.setVm vm₁).setTop { g with stack := rest }) acts mk av).1 target) → Steps p.tables e below (T.setTop g) target
/-- the way to the method z by an instruction of the method's class 'own', n values on the stack -/
def sAr (ins : Instr) (own : String) (recv : Option Nat) (z : MethodName) (n : Nat) : Prop :=
  ∀ (w : sWd), sGood w → ∀ {p : Program} {l : Launch} {e : Env} {R : Room} {s : State} {m : MethodId} {args : Array Value} {below : List Frame} {meth : Method} {c : Code} {T : State} {locs : List Loc} {cells slots : Nat}, Stand p l e R s m args below meth c T locs cells slots → p.tables.exec = Jvm.exec → s.vm.findClass own = some m.cls → w.1.WarmedH s.vm →
    ∀ (g : JFrame) (av rest : List Value), g.method = m → av.length = n → g.stack = av.reverse ++ rest → decode c.code g.pc = .ok (ins, 3) → (∀ ci, recv = some ci → ∃ (a : Nat) (as : List Value) (V : Nat → Value), av = .ref a :: as ∧ sOb w ci V a T.heap) → ((∃ i, ins = .invokespecial i) → ∃ (a : Nat) (as : List Value), av = .ref a :: as) → sArr p l e R s m args below meth c T locs cells slots g rest z av.toArray
/-- a method's code word, with handlers or without -/
def sCW (z : MethodName) : Prop := (∃ b L r, Jvm.Cond.code z b L r ∈ lw_all) ∨ (∃ b L r hh, Jvm.Cond.codeWith z b L r hh ∈ lw_all)
theorem sCW.sig {z : MethodName} (h : sCW z) {w : sWd} (G : sGood w) {s : State} (hW : w.1.WarmedH s.vm) : ∃ (mk : MethodId) (mm : Method), s.methodNamed? z = some mk ∧ s.vm.method? mk = some mm ∧ parseMethodDescriptor z.desc = some mm.sig := by
  rcases h with ⟨b, L, r, h⟩ | ⟨b, L, r, hh, h⟩
  · have h1 := sword G hW h #[]
    obtain ⟨mk, hn⟩ := Cond.code_named h1
    obtain ⟨mm, cM, h2, -, -, -, -, -, -, h3⟩ := Cond.code_spec hn h1
    exact ⟨mk, mm, hn, h2, h3⟩
  · have h1 := sword G hW h #[]
    obtain ⟨mk, mm, cM, hn, h2, -, -, -, -, -, -, h3⟩ := Cond.codeWith_spec h1
    exact ⟨mk, mm, hn, h2, h3⟩
def sPl (z : MethodName) : Prop := z.cls ≠ "java/lang/invoke/MethodHandle" ∧ z.cls ≠ "java/lang/invoke/VarHandle"
def sPn (z : MethodName) (n : Nat) : Prop := (parseMethodDescriptor z.desc).map (fun d => d.parameters.length) = some n
theorem sPn.len {z : MethodName} {n : Nat} (h : sPn z n) {sig : MethodDescriptor} (h2 : parseMethodDescriptor z.desc = some sig) : n = sig.parameters.length := by
  unfold sPn at h
  rw [h2] at h
  exact (Option.some.inj h).symm
theorem sAr.S {own : String} {idx : Nat} {z : MethodName} {n : Nat} (h1 : Jvm.Cond.methodLink own idx z ∈ lw_all) (h2 : Jvm.Cond.static z ∈ lw_all) (h3 : Jvm.Cond.initialized z.cls ∈ lw_all) (h4 : sCW z) (h5 : sPl z) (h6 : sPn z n) : sAr (.invokestatic idx) own none z n := by
  intro w G p l e R s m args below meth c T locs cells slots X hx hown hW g av rest hg hav hst hdg _ _
  obtain ⟨mk, mm, hn, hm, hsig⟩ := h4.sig G hW
  obtain ⟨kP, hkP, -⟩ := className_of_methodNamed hn
  obtain ⟨vm₁, X₁, hstep⟩ := X.invokestatic hx hown (sword G hW h1 args) hn hm (Cond.static_spec hn hm (sword G hW h2 args)) hkP (Cond.initialized_spec (findClass_of_methodNamed hn) hkP (sword G hW h3 args)) h5 (g := g) hg (argsL := av) (rest := rest) (by rw [hav]; exact h6.len hsig) hst hdg
  exact ⟨vm₁, mk, X₁, hn, hstep⟩
theorem sAr.SN {own : String} {idx : Nat} {z : MethodName} {n : Nat} (h1 : Jvm.Cond.methodLinkNest own idx z "RiverGauge" ∈ lw_tbl) (h2 : Jvm.Cond.static z ∈ lw_all) (h3 : Jvm.Cond.initialized z.cls ∈ lw_all) (h4 : sCW z) (h5 : sPl z) (h6 : sPn z n) : sAr (.invokestatic idx) own none z n := by
  intro w G p l e R s m args below meth c T locs cells slots X hx hown hW g av rest hg hav hst hdg _ _
  obtain ⟨mk, mm, hn, hm, hsig⟩ := h4.sig G hW
  obtain ⟨kP, hkP, -⟩ := className_of_methodNamed hn
  obtain ⟨vm₁, X₁, hstep⟩ := X.invokestaticNest hx hown (va_Nw.use rfl (va_Nw.warmM hW (va_Nw.of rfl (G.1 _ h1)))) hn hm (Cond.static_spec hn hm (sword G hW h2 args)) hkP (Cond.initialized_spec (findClass_of_methodNamed hn) hkP (sword G hW h3 args)) h5 (g := g) hg (argsL := av) (rest := rest) (by rw [hav]; exact h6.len hsig) hst hdg
  exact ⟨vm₁, mk, X₁, hn, hstep⟩
theorem sAr.I {own : String} {idx : Nat} {z : MethodName} {n : Nat} {b : ByteArray} {L : Nat} (h0 : z.name = "<init>") (h1 : Jvm.Cond.methodLink own idx z ∈ lw_all) (h2 : Jvm.Cond.instanceMethod z ∈ lw_all) (h4 : Jvm.Cond.code z b L none ∈ lw_all) (h5 : sPl z) (h6 : sPn z n) : sAr (.invokespecial idx) own none z (n + 1) := by
  intro w G p l e R s m args below meth c T locs cells slots X hx hown hW g av rest hg hav hst hdg _ hi
  obtain ⟨a, as, rfl⟩ := hi ⟨_, rfl⟩
  subst hg
  have hpl : e.platform.magicAccessors = ({} : Platform).magicAccessors := by rw [X.admits.platform]
  rw [List.reverse_cons, List.append_assoc] at hst
  obtain ⟨mk, methM, cM, kP, vm₁, hnamed, hmethM, hcodeM, -, hlocalsM, -, hkP, -, hW₁, hstep₁⟩ := Steps.initColdArgs (e := e) X.here hx X.warmed hpl hown h0 h5 (sword G hW h1 args) (sword G hW h2 args) (sword G hW h4 args) (f := g) rfl (fun sig h => by have := h6.len h; simp at hav; omega) hst hdg
  exact ⟨vm₁, mk, X.noted hW₁, hnamed, fun target h => hstep₁ _ h⟩
theorem sAr.IN {own : String} {idx : Nat} {z : MethodName} {n : Nat} {b : ByteArray} {L : Nat} (h0 : z.name = "<init>") (h1 : Jvm.Cond.methodLinkNest own idx z "RiverGauge" ∈ lw_tbl) (h2 : Jvm.Cond.instanceMethod z ∈ lw_all) (h4 : Jvm.Cond.code z b L none ∈ lw_all) (h5 : sPl z) (h6 : sPn z n) : sAr (.invokespecial idx) own none z (n + 1) := by
  intro w G p l e R s m args below meth c T locs cells slots X hx hown hW g av rest hg hav hst hdg _ hi
  obtain ⟨a, as, rfl⟩ := hi ⟨_, rfl⟩
  subst hg
  have hpl : e.platform.magicAccessors = ({} : Platform).magicAccessors := by rw [X.admits.platform]
  rw [List.reverse_cons, List.append_assoc] at hst
  obtain ⟨mk, methM, cM, kP, vm₁, hnamed, hmethM, hcodeM, -, hlocalsM, -, hkP, -, hW₁, hstep₁⟩ := Steps.initColdArgsNest (e := e) X.here hx X.warmed hpl hown h0 h5 (va_Nw.use rfl (va_Nw.warmM hW (va_Nw.of rfl (G.1 _ h1)))) (sword G hW h2 args) (sword G hW h4 args) (f := g) rfl (fun sig h => by have := h6.len h; simp at hav; omega) hst hdg
  exact ⟨vm₁, mk, X.noted hW₁, hnamed, fun target h => hstep₁ _ h⟩
/-- the receiver's cell -/
theorem sOb.recv {w : sWd} (G : sGood w) {s : State} (hW : w.1.WarmedH s.vm) {ci : Nat} {V : Nat → Value} {a : Nat} {H : Heap} (h : sOb w ci V a H) {K : String} (hK : mcnm ci = K) : ∃ x : Cell, H[a]? = some x ∧ x.vm.isStatics = false ∧ s.vm.findClass K = some x.cls := by
  obtain ⟨r, h1, ⟨x, q1, q2, q3, -⟩, -⟩ := h
  obtain ⟨K', T, N⟩ := r
  obtain ⟨n', ty, -, -, -, -, -, -, -, hnm⟩ := sclass h1
  have h2 := ((skn G hW).1 ci _ h1).2.1
  refine ⟨x, q1, by rw [q3]; rfl, ?_⟩
  rw [q2, ← hK, hnm]
  exact h2
theorem sAr.V {own : String} {idx ci : Nat} {z : MethodName} {n : Nat} (hc : mcnm ci = z.cls) (h1 : Jvm.Cond.methodLink own idx z ∈ lw_all) (h2 : Jvm.Cond.instanceMethod z ∈ lw_all) (h3 : Jvm.Cond.selects z.cls z z ∈ lw_all) (h4 : sCW z) (h5 : sPl z) (h6 : sPn z n) : sAr (.invokevirtual idx) own (some ci) z (n + 1) := by
  intro w G p l e R s m args below meth c T locs cells slots X hx hown hW g av rest hg hav hst hdg hr _
  obtain ⟨a, as, V, rfl, hO⟩ := hr ci rfl
  obtain ⟨cellB, hcell, hobj, hcls⟩ := hO.recv G hW hc
  rw [List.reverse_cons, List.append_assoc] at hst
  obtain ⟨mk0, mm0, hn0, hm0, hsig⟩ := h4.sig G hW
  obtain ⟨mk, methM, hnamed, hmethM, hstM, habM⟩ := Cond.instanceMethod_spec (sword G hW h2 args)
  cases hn0.symm.trans hnamed
  cases hm0.symm.trans hmethM
  obtain ⟨c2, r2, m2, q1, q2, q3, q4, kP, hkP, hkPi⟩ := Cond.selects_spec (sword G hW h3 args)
  cases hcls.symm.trans q1
  cases (State.methodFound?_of_named hnamed h5).symm.trans q2
  cases hnamed.symm.trans q3
  have hselP : selectMethod e.platform s.vm cellB.cls mk0 = .method mk0 := by rw [Launch.admits_selectMethod X.admits]; exact q4
  obtain ⟨vm₁, X₁, hstep₁⟩ := X.invokevirtual hx hown (sword G hW h1 args) hnamed hmethM hstM hkP hkPi h5 (a := a) (cell := cellB) hcell
    (fun z h => by rw [h] at hobj; cases hobj) hselP hmethM habM hkP hkPi (g := g) hg (argsL := as) (rest := rest) (by have := h6.len hsig; simp at hav; omega) hst hdg
  exact ⟨vm₁, mk0, X₁, hnamed, hstep₁⟩
theorem sAr.U {own owner : String} {idx ci : Nat} {x z : MethodName} {n : Nat} {K : String} (hc : mcnm ci = K) (h1 : Jvm.Cond.methodLink own idx x ∈ lw_all) (h7 : Jvm.Cond.sameMethod x.cls owner x.name x.desc ∈ lw_all) (h8 : Jvm.Cond.declares ⟨owner, x.name, x.desc⟩ ∈ lw_tbl) (h9 : owner ≠ "java/lang/invoke/MethodHandle" ∧ owner ≠ "java/lang/invoke/VarHandle") (h2 : Jvm.Cond.instanceMethod z ∈ lw_all) (h3 : Jvm.Cond.selects K x z ∈ lw_all) (h6 : sPn x n) : sAr (.invokevirtual idx) own (some ci) z (n + 1) := by
  intro w G p l e R s m args below meth c T locs cells slots X hx hown hW g av rest hg hav hst hdg hr _
  obtain ⟨a, as, V, rfl, hO⟩ := hr ci rfl
  obtain ⟨cellB, hcell, hobj, hcls⟩ := hO.recv G hW hc
  rw [List.reverse_cons, List.append_assoc] at hst
  obtain ⟨r0, r, hn, hrm, hstR, hsigR⟩ := va_Decl.abs (va_Nw.warmD hW (va_Nw.of rfl (G.1 _ h8)))
  obtain ⟨cn, ck, r1, hcn, hck, hni, hf, hn1⟩ := Cond.sameMethod_found (sword G hW h7 args)
  cases hn.symm.trans hn1
  obtain ⟨mk, methM, hnamed, hmethM, -, habM⟩ := Cond.instanceMethod_spec (sword G hW h2 args)
  obtain ⟨c2, r2, m2, q1, q2, q3, q4, kP, hkP, hkPi⟩ := Cond.selects_spec (sword G hW h3 args)
  cases hcls.symm.trans q1
  cases hf.symm.trans q2
  cases hnamed.symm.trans q3
  have hselP : selectMethod e.platform s.vm cellB.cls r0 = .method mk := by rw [Launch.admits_selectMethod X.admits]; exact q4
  obtain ⟨vm₁, X₁, hstep₁⟩ := X.invokevirtualUp hx hown (sword G hW h1 args) (sword G hW h7 args) h9 hn hrm hstR (a := a) (cell := cellB) hcell
    (fun z h => by rw [h] at hobj; cases hobj) hselP hmethM habM hkP hkPi (g := g) hg (argsL := as) (rest := rest) (by have := h6.len hsigR; simp at hav; omega) hst hdg
  exact ⟨vm₁, mk, X₁, hnamed, hstep₁⟩
/-- a private method of the class above the receiver's -/
theorem sAr.P {own : String} {idx ci : Nat} {z : MethodName} {n : Nat} {K : String} (hc : mcnm ci = K) (h1 : Jvm.Cond.methodLink own idx z ∈ lw_all) (h2 : Jvm.Cond.instanceMethod z ∈ lw_all) (h3 : Jvm.Cond.privateMethod z ∈ lw_tbl) (h7 : Jvm.Cond.sameMethod z.cls z.cls z.name z.desc ∈ lw_all) (h4 : sCW z) (h5 : sPl z) (h6 : sPn z n) : sAr (.invokevirtual idx) own (some ci) z (n + 1) := by
  intro w G p l e R s m args below meth c T locs cells slots X hx hown hW g av rest hg hav hst hdg hr _
  obtain ⟨a, as, V, rfl, hO⟩ := hr ci rfl
  obtain ⟨cellB, hcell, hobj, hcls⟩ := hO.recv G hW hc
  rw [List.reverse_cons, List.append_assoc] at hst
  obtain ⟨mk0, mm0, hn0, hm0, hsig⟩ := h4.sig G hW
  obtain ⟨mk, methM, hnamed, hmethM, hstM, habM⟩ := Cond.instanceMethod_spec (sword G hW h2 args)
  cases hn0.symm.trans hnamed
  cases hm0.symm.trans hmethM
  obtain ⟨cn, ck, r1, hcn, hck, hni, hf, hn1⟩ := Cond.sameMethod_found (sword G hW h7 args)
  cases hnamed.symm.trans hn1
  have hpriv : mm0.isPrivate = true := Cond.privateMethod_at (Cond.privateMethod_warm (args' := args) hW (G.1 _ h3)) mk0 mm0 hnamed hmethM
  have hselP : selectMethod e.platform s.vm cellB.cls mk0 = .method mk0 := selectMethod_private hm0 hpriv
  have hkc : mk0.cls = cn := Option.some.inj ((findClass_of_methodNamed hnamed).symm.trans hcn)
  obtain ⟨vm₁, X₁, hstep₁⟩ := X.invokevirtual hx hown (sword G hW h1 args) hnamed hmethM hstM (by rw [hkc]; exact hck) hni h5 (a := a) (cell := cellB) hcell
    (fun z h => by rw [h] at hobj; cases hobj) hselP hmethM habM (by rw [hkc]; exact hck) hni (g := g) hg (argsL := as) (rest := rest) (by have := h6.len hsig; simp at hav; omega) hst hdg
  exact ⟨vm₁, mk0, X₁, hnamed, hstep₁⟩
