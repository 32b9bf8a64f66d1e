/-! soundness, 5: a call by its callee's contract, ended by a value or by an exception -/
set_option maxRecDepth 100000
def soc (w : sWd) (o : mOc) : Outcome := match o with
  | .inl v => .returned (v.map (str (sρ w)))
  | .inr a => .threw (sρ w a)
def sPre (w : sWd) (as : List Value) (h : mHS) (a : Array Value) (s : State) : Prop := a = (as.map (str (sρ w))).toArray ∧ sRep w h s.heap ∧ w.1.WarmedH s.vm
def sPost (w : sWd) (R : Room) (Qc : mOc → mHS → Prop) (_ : Array Value) (s : State) (o : Outcome) (t : State) : Prop := ∃ (oc : mOc) (h' : mHS) (L : List Loc) (k n : Nat), o = soc w oc ∧ Qc oc h' ∧ sRep w h' t.heap ∧ s.WarmedH t.vm ∧ s.sameButNew ({ t with vm := s.vm } : State) L k n ∧ (∀ q ∈ L, w.1.heap.size ≤ q.base) ∧ k + h'.2.2.2.2.1 ≤ R.cells ∧ n + h'.2.2.2.2.2.1 ≤ R.slots
def sMet (w : sWd) (l : Launch) (z : MethodName) (cw : Jvm.Cond) (as : List Value) (h : mHS) (d : Nat) (Qc : mOc → mHS → Prop) : Prop := ∀ R : Room, d ≤ R.frames → 100 * d ≤ R.locals → h.2.2.2.2.1 ≤ R.cells → h.2.2.2.2.2.1 ≤ R.slots → MetFree l z (headSpec [cw] R) (sPre w as h) (fun _ _ _ _ _ => True) (sPost w R Qc)
section SND5
variable {p : Program} {l : Launch} {e : Env} {R : Room} {s : State} {m : MethodId} {args : Array Value} {below : List Frame} {meth : Method} {c : Code} {T : State} {locs : List Loc} {cells slots : Nat}
set_option maxHeartbeats 2000000 in
theorem s_call {w : sWd} (G : sGood w) (hW : w.1.WarmedH s.vm) {z : MethodName} {cw : Jvm.Cond} {as : List Value} {h : mHS} {d : Nat} {Qc : mOc → mHS → Prop} (hM : sMet w l z cw as h d Qc) {g : JFrame} {rest : List Value} (A : sArr p l e R s m args below meth c T locs cells slots g rest z (as.map (str (sρ w))).toArray)
    (hg : g.method = m) (hsize : g.locals.size = c.maxLocals) {ig : Instr} {len : Nat} (hdg : decode c.code g.pc = .ok (ig, len)) (hcw : cw ∈ lw_all) {maxL : Nat} (hcode : ∀ (U : State) (mk : MethodId), cw.before #[] U = true → U.methodNamed? z = some mk → ∃ mm cm, U.vm.method? mk = some mm ∧ mm.code = some cm ∧ cm.maxLocals = maxL) (hini : Jvm.Cond.initialized z.cls ∈ lw_all)
    (hfr : d + 1 ≤ R.frames) (hlo : 2 * g.monitorRoom + (rest.map fun v => v.category).sum + (maxL + 11) + 100 * d ≤ R.locals) (hce : cells + h.2.2.2.2.1 ≤ R.cells) (hsl : slots + h.2.2.2.2.2.1 ≤ R.slots) (hR : sRep w h T.heap) :
    ∃ (oc : mOc) (h' : mHS) (L : List Loc) (k n : Nat) (T' : State), Stand p l e R s m args below meth c T' (locs ++ L) (cells + k) (slots + n) ∧ Qc oc h' ∧ sRep w h' T'.heap ∧ (∀ q ∈ L, w.1.heap.size ≤ q.base) ∧ cells + k + h'.2.2.2.2.1 ≤ R.cells ∧ slots + n + h'.2.2.2.2.2.1 ≤ R.slots ∧
      (match oc with
        | .inl v => ∀ target, Steps p.tables e below (T'.setTop { g with pc := g.pc + len, stack := (v.map (str (sρ w))).toList ++ rest }) target → Steps p.tables e below (T.setTop g) target
        | .inr a => ∀ target, Steps p.tables e below ((T'.setTop { g with stack := rest }).pushFrame (.throwing (sρ w a))) target → Steps p.tables e below (T.setTop g) target) := by
  obtain ⟨vm₁, mk, X, hn0, hstep⟩ := A
  have hn : (T.setVm vm₁).methodNamed? z = some mk := X.named hn0
  have hW₁ : w.1.WarmedH (T.setVm vm₁).vm := State.WarmedH.trans hW X.warmed
  generalize hU : T.setVm vm₁ = U at X hn hW₁ hstep
  have hUh : U.heap = T.heap := by rw [← hU]; rfl
  generalize hg1 : ({ g with stack := rest } : JFrame) = g1 at hstep
  have hg1m : g1.method = m := by rw [← hg1]; exact hg
  have hg1s : g1.locals.size = c.maxLocals := by rw [← hg1]; exact hsize
  have hdg1 : decode c.code g1.pc = .ok (ig, len) := by rw [← hg1]; exact hdg
  have hlo1 : 2 * g1.monitorRoom + (g1.stack.map fun v => v.category).sum + (maxL + 11) + 100 * d ≤ R.locals := by rw [← hg1]; exact hlo
  let RR : Room := { frames := d, cells := R.cells - cells, slots := R.slots - slots, locals := 100 * d }
  have hM1 := hM RR (Nat.le_refl _) (Nat.le_refl _) (by show _ ≤ R.cells - cells; omega) (by show _ ≤ R.slots - slots; omega)
  have hcwU : cw.before (as.map (str (sρ w))).toArray U = true := sword G hW₁ hcw _
  obtain ⟨methY, cY, hmY, hcY, hlY⟩ := hcode U mk (sword G hW₁ hcw _) hn
  obtain ⟨kY, hkY, -⟩ := className_of_methodNamed hn
  have hinitY : kY.init = .initialized := Cond.initialized_spec (findClass_of_methodNamed hn) hkY (sword G hW₁ hini #[])
  have hAt : At U g1.method c below := by rw [hg1m]; exact X.here
  generalize hav : (as.map (str (sρ w))).toArray = av at hstep hcwU
  have happ : (headSpec [cw] RR).appliesLoose z e.platform (U.calling g1 mk av) = true :=
    Spec.appliesLoose_calling (g := g1) hAt hdg1 hn hkY hinitY
      (X.room_calling (g := g1) (R' := RR) hg1s hmY hcY hfr (by rw [hlY]; exact hlo1) (by show cells + (R.cells - cells) ≤ R.cells; omega) (by show slots + (R.slots - slots) ≤ R.slots; omega)) (atoms_intro fun x hx => by rw [List.mem_singleton.mp hx]; exact hcwU)
  obtain ⟨mid, hmid⟩ := hAt.above
  have hfrm : (U.setTop g1).frames = (.java g1 :: mid) ++ below := by rw [State.frames_setTop' g1 hAt.top, hmid]; rfl
  obtain ⟨o, s₂, hsteps, -, hend, hq⟩ := Steps.callFree hM1 p X.admits X.cas X.clock (acts := []) hfrm happ ⟨hav.symm, by show sRep w h (U.calling g1 mk av).heap; rw [show (U.calling g1 mk av).heap = U.heap from rfl, hUh]; exact hR, hW₁⟩ trivial
  have hq' : sPost w RR Qc av (U.calling g1 mk av) o s₂ := hq
  obtain ⟨oc, h', L, k, n, ho, hqc, hrep, hW₂, hsame0, hL, hk, hns⟩ := hq'
  rw [State.frames_setTop' g1 hAt.top] at hend
  obtain ⟨e2, q2, q3, q4, q5, q6⟩ := hsame0
  have hW' : U.WarmedH s₂.vm := hW₂
  have e3 : s₂ = ({ (U.calling g1 mk av).setFrames s₂.frames with heap := s₂.heap, slotsUsed := s₂.slotsUsed } : State).setVm s₂.vm := by
    have : s₂ = ({ s₂ with vm := (U.calling g1 mk av).vm } : State).setVm s₂.vm := rfl
    rw [e2] at this
    exact this
  obtain ⟨g₀, hg0⟩ := Option.isSome_iff_exists.mp hAt.top
  obtain ⟨r, hr⟩ := State.topJava?_eq_some.mp hg0
  have hsame : U.sameButNew ({ U with heap := s₂.heap, slotsUsed := s₂.slotsUsed } : State) L k n := by
    refine ⟨?_, q2, q3, q4, q5, q6⟩
    obtain ⟨t, ht, -⟩ := State.frames_cons hr
    show ({ U with heap := s₂.heap, slotsUsed := s₂.slotsUsed } : State) = { U.setFrames U.frames with heap := s₂.heap, slotsUsed := s₂.slotsUsed }
    rw [State.setFrames_self ht]
  have X' : Stand p l e R s m args below meth c (({ U with heap := s₂.heap, slotsUsed := s₂.slotsUsed } : State).setVm s₂.vm) (locs ++ L) (cells + k) (slots + n) :=
    ⟨X.admits, X.cas, X.clock, X.frames, X.room, X.hears, X.method, X.code, (X.here.setHeapUsed s₂.heap s₂.slotsUsed).setVm hW'.alike, X.tail, State.WarmedH.trans X.warmed hW', X.limits, X.bytes, X.same.trans (hsame.setVm s.vm)⟩
  have hr' : (({ U with heap := s₂.heap, slotsUsed := s₂.slotsUsed } : State).setVm s₂.vm).frames = .java g₀ :: r := hr
  refine ⟨oc, h', L, k, n, ({ U with heap := s₂.heap, slotsUsed := s₂.slotsUsed } : State).setVm s₂.vm, X', hqc, hrep, hL, by have : k + h'.2.2.2.2.1 ≤ R.cells - cells := hk; omega, by have : n + h'.2.2.2.2.2.1 ≤ R.slots - slots := hns; omega, ?_⟩
  cases oc with
  | inl v =>
    subst ho
    obtain ⟨c₂, i₂, len₂, hc₂, hd₂, hf₂⟩ := hend
    have hcc : c₂ = c := by
      have h1 : s₂.code? g1.method = U.code? g1.method := by
        rw [State.code?_eq, State.code?_eq, hW'.alike.method?]
      exact Option.some.inj (hc₂.symm.trans (h1.trans hAt.code))
    subst hcc
    have hlen : len₂ = len := by rw [hdg1] at hd₂; cases hd₂; rfl
    subst hlen
    have hs₂ : s₂ = (({ U with heap := s₂.heap, slotsUsed := s₂.slotsUsed } : State).setVm s₂.vm).setTop { g1 with pc := g1.pc + len₂, stack := (v.map (str (sρ w))).toList ++ g1.stack } := by
      refine e3.trans ?_
      rw [hf₂, State.calling_eq hAt.top, State.setFrames_setFrames, State.setTop_of_frames _ hr', hr]
      rfl
    intro target ht
    refine hstep target fun acts => ?_
    rw [doInvoke_state]
    rw [doInvoke_state] at hsteps
    refine hsteps.trans ?_
    rw [hs₂, ← hg1]
    exact ht
  | inr a =>
    subst ho
    have hf₂ : s₂.frames = .throwing (sρ w a) :: .java g1 :: U.frames.tail := hend
    have hs₂ : s₂ = ((({ U with heap := s₂.heap, slotsUsed := s₂.slotsUsed } : State).setVm s₂.vm).setTop g1).pushFrame (.throwing (sρ w a)) := by
      refine e3.trans ?_
      rw [hf₂, State.calling_eq hAt.top, State.setFrames_setFrames, State.pushFrame, State.frames_setTop _ hr', State.setTop_of_frames _ hr', State.setFrames_setFrames, hr]
      rfl
    intro target ht
    refine hstep target fun acts => ?_
    rw [doInvoke_state]
    rw [doInvoke_state] at hsteps
    refine hsteps.trans ?_
    rw [hs₂]
    exact ht
end SND5
