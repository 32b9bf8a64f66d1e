/-! soundness, 3: the real heap of an abstract one; fields, arrays, new cells -/
set_option maxRecDepth 100000
/-- a run's own data: the start's state, where the script and the text lie, kinds and slots, kinds of arrays, the script -/
abbrev sWd : Type := State × Nat × Nat × va_G × (FieldType → ClassId) × Nat × (Nat → Int32)
def sρ (w : sWd) : Nat → Nat := sra w.2.1 w.2.2.1 w.1.heap.size
def sTys : List FieldType := [.int, .long, .byte, .boolean, .object "RiverGauge$Zero", .object "RiverGauge$Height", .object "RiverGauge$Flow", .object "RiverGauge$Standard", .object "RiverGauge$Cover", .object "RiverGauge$Base", .array .int]
def sMn (a : Nat) (H : Heap) : Prop := ∀ x : Cell, H[a]? = some x → x.monitor.owner = none ∧ x.monitor.count = 0
def sOb (w : sWd) (ci : Nat) (V : Nat → Value) (a : Nat) (H : Heap) : Prop := ∃ r : vw_C, sCl[ci]? = some r ∧ t_OB a (w.2.2.2.1.1 ci) r.2.2 (w.2.2.2.1.2 ci) H V ∧ sMn a H
def sAt (w : sWd) (e : mAE) (a : Nat) (H : Heap) : Prop := match e with
  | .inl (ci, V) => sOb w ci (fun k => str (sρ w) (V k)) a H
  | .inr (ty, n, F) => ty ∈ sTys ∧ H[a]? = some (arrV (w.2.2.2.2.1 ty) n (fun i => str (sρ w) (F i)))
def sScr (w : sWd) : mAE := .inr (.int, w.2.2.2.2.2.1, fun i => .int (w.2.2.2.2.2.2 i))
def sRep (w : sWd) (h : mHS) (H : Heap) : Prop := (2 ≤ h.2.2.2.1 ∧ H.size + 2 = w.1.heap.size + h.2.2.2.1 ∧ (h.2.2.2.2.2.2 = true → 88 ≤ h.2.2.2.1)) ∧ (∀ q, q < w.1.heap.size → H[q]? = w.1.heap[q]?) ∧ (∀ e, mlook h 0 = some e → e = sScr w) ∧ mlook h 1 = none ∧ ∀ j e, 2 ≤ j → mlook h j = some e → j < h.2.2.2.1 ∧ sAt w e (sρ w j) H
def sGood (w : sWd) : Prop := (∀ x ∈ lw_tbl, x.before #[Value.ref w.2.1] w.1 = true) ∧ va_K w.2.2.2.1 sCl (sTys.map (fun ty => (w.2.2.2.2.1 ty, ty))) w.1 ∧ va_X w.2.1 w.2.2.2.2.2.1 w.2.2.2.2.2.2 w.1 w.1.heap ∧ w.2.1 < w.1.heap.size ∧ (Jvm.Cond.and given_1 narrow_1).before #[Value.ref w.2.1] w.1 = true
theorem sρ_eq (w : sWd) {j : Nat} (h : 2 ≤ j) : sρ w j + 2 = w.1.heap.size + j := by
  match j, h with
  | n + 2, _ => simp only [sρ, sra]; omega
theorem sρ_inj (w : sWd) {i j : Nat} (hi : 2 ≤ i) (hj : 2 ≤ j) (h : i ≠ j) : sρ w i ≠ sρ w j := by
  have h1 := sρ_eq w hi
  have h2 := sρ_eq w hj
  omega
theorem sρ_ge (w : sWd) {j : Nat} (h : 2 ≤ j) : w.1.heap.size ≤ sρ w j := by
  have h1 := sρ_eq w h
  omega
theorem sAt.kept {w : sWd} {e : mAE} {a : Nat} {H H1 : Heap} (h : sAt w e a H) (hq : H1[a]? = H[a]?) : sAt w e a H1 := by
  match e, h with
  | .inl (ci, V), ⟨r, h1, h2, h3⟩ => exact ⟨r, h1, h2.kept hq, fun x hx => h3 x (by rw [← hq]; exact hx)⟩
  | .inr (ty, n, F), ⟨h1, h2⟩ => exact ⟨h1, by rw [hq]; exact h2⟩
theorem sAt.lt {w : sWd} {e : mAE} {a : Nat} {H : Heap} (h : sAt w e a H) : a < H.size := by
  match e, h with
  | .inl (ci, V), ⟨r, h1, ⟨x, h2, _⟩, _⟩ => exact (Array.getElem?_eq_some_iff.mp h2).1
  | .inr (ty, n, F), ⟨h1, h2⟩ => exact (Array.getElem?_eq_some_iff.mp h2).1
theorem sRep.put {w : sWd} {h h' : mHS} {H H1 : Heap} (hr : sRep w h H) {j : Nat} (hj : 2 ≤ j) (hs : sSame h h') {e0 e : mAE} (h0 : mlook h j = some e0) (h1 : mlook h' j = some e) (h2 : ∀ j', j' ≠ j → mlook h' j' = mlook h j') (z : H1.size = H.size) (oq : ∀ q, q ≠ sρ w j → H1[q]? = H[q]?) (ha : sAt w e (sρ w j) H1) : sRep w h' H1 := by
  obtain ⟨r1, r2, r3, r4, r5⟩ := hr
  have hge := sρ_ge w hj
  refine ⟨by rw [hs, z]; exact r1, fun q hq => ?_, fun e he => ?_, ?_, fun j' e' hj' he => ?_⟩
  · rw [oq q (by omega)]; exact r2 q hq
  · rw [h2 0 (by omega)] at he; exact r3 e he
  · rw [h2 1 (by omega)]; exact r4
  · rw [hs]
    by_cases q : j' = j
    · subst q
      rw [h1] at he
      cases he
      exact ⟨(r5 j' e0 hj h0).1, ha⟩
    · rw [h2 j' q] at he
      obtain ⟨s1, s2⟩ := r5 j' e' hj' he
      exact ⟨s1, s2.kept (oq _ (sρ_inj w hj' hj q))⟩
theorem sRep.sz {w : sWd} {h : mHS} {H : Heap} (hr : sRep w h H) : sρ w h.2.2.2.1 = H.size := by
  have h1 := sρ_eq w hr.1.1
  have h2 := hr.1.2.1
  omega
theorem sRep.free {w : sWd} {h : mHS} {H : Heap} (hr : sRep w h H) : mIn h h.2.2.2.1 = false := by
  cases hb : mIn h h.2.2.2.1 with
  | false => rfl
  | true =>
    have h1 := (mIn_lt hb).2
    have h2 : h.2.2.2.2.2.2 = true := by
      unfold mIn at hb
      rw [Bool.and_eq_true] at hb
      exact hb.1
    have h3 := hr.1.2.2 h2
    omega
theorem sRep.made {w : sWd} {h : mHS} {H H1 : Heap} (hr : sRep w h H) (e : mAE) (n : Nat) (z : H1.size = H.size + 1) (oq : ∀ q, q < H.size → H1[q]? = H[q]?) (ha : sAt w e (sρ w h.2.2.2.1) H1) : sRep w (mmade h e n) H1 := by
  have hfr := hr.free
  have hsz := hr.sz
  obtain ⟨⟨r1, r1b, r1c⟩, r2, r3, r4, r5⟩ := hr
  obtain ⟨l1, l2⟩ := look_made (h := h) (e := e) (n := n) hfr
  refine ⟨⟨?_, ?_, fun q => ?_⟩, fun q hq => ?_, fun e he => ?_, ?_, fun j' e' hj' he => ?_⟩
  · show 2 ≤ h.2.2.2.1 + 1; omega
  · show H1.size + 2 = w.1.heap.size + (h.2.2.2.1 + 1); omega
  · show 88 ≤ h.2.2.2.1 + 1
    have := r1c q
    omega
  · rw [oq q (by omega)]; exact r2 q hq
  · rw [l2 0 (by omega)] at he; exact r3 e he
  · rw [l2 1 (by omega)]; exact r4
  · show j' < h.2.2.2.1 + 1 ∧ _
    by_cases q : j' = h.2.2.2.1
    · subst q
      rw [l1] at he
      cases he
      exact ⟨by omega, ha⟩
    · rw [l2 j' q] at he
      obtain ⟨s1, s2⟩ := r5 j' e' hj' he
      exact ⟨by omega, s2.kept (oq _ s2.lt)⟩
theorem sRep.ge2 {w : sWd} {h : mHS} {H : Heap} (hr : sRep w h H) {j ci : Nat} {V : Nat → Value} (q : mlook h j = some (.inl (ci, V))) : 2 ≤ j := by
  match j with
  | 0 => exact absurd (hr.2.2.1 _ q) (by intro z; cases z)
  | 1 => rw [hr.2.2.2.1] at q; cases q
  | n + 2 => omega
theorem sword {w : sWd} (G : sGood w) {s : State} (hW : w.1.WarmedH s.vm) {x : Jvm.Cond} (h : x ∈ lw_all) (a : Array Value) : x.before a s = true := word_at hW (good_of_word (List.mem_filter.mp h).2) (G.1 x (lw_all_tbl h))
theorem skn {w : sWd} (G : sGood w) {s : State} (hW : w.1.WarmedH s.vm) : va_K w.2.2.2.1 sCl (sTys.map (fun ty => (w.2.2.2.2.1 ty, ty))) s := va_K.moved hW.alike G.2.1
theorem stys {w : sWd} (G : sGood w) {s : State} (hW : w.1.WarmedH s.vm) {ty : FieldType} (h : ty ∈ sTys) : ArrOfT s (w.2.2.2.2.1 ty) ty ∧ va_RA s (w.2.2.2.2.1 ty) ty := by
  have h2 : (w.2.2.2.2.1 ty, ty) ∈ sTys.map (fun ty => (w.2.2.2.2.1 ty, ty)) := List.mem_map.mpr ⟨ty, h, rfl⟩
  obtain ⟨k, hk⟩ := List.getElem?_of_mem h2
  exact (skn G hW).2 k _ hk
theorem sf_lt {f : Nat} {x : String × Nat × String × String × String × Bool} (h : mlk2 sfI f = some x) : f < 214 := by
  rcases Nat.lt_or_ge f 214 with q | q
  · exact q
  · exfalso
    obtain ⟨r, h1, h2⟩ := mlk2_mem h
    have : sfI.all (fun r => r.2.all (fun y => Nat.blt y.1 214)) = true := by decide +kernel
    have h3 := List.all_eq_true.mp (List.all_eq_true.mp this r h1) _ h2
    have h4 := blt_lt h3
    omega
/-- a field row's receiver -/
theorem sf_recv {f : Nat} {own : String} {idx : Nat} {ref n d : String} {nest : Bool} (hf : mlk2 sfI f = some (own, idx, ref, n, d, nest)) {ci k : Nat} (hk : mlk (mfT f).2 ci = some k) :
    ∃ (K : String) (T : u_T) (N : Nat), sCl[ci]? = some (K, T, N) ∧ k < N ∧ (T k).2.1 = n ∧ (T k).2.2.1 = d ∧ ((T k).1 = ref ∨ Jvm.Cond.sameField ref (T k).1 n d ∈ lw_all) := by
  have h := sFB_all f (sf_lt hf)
  unfold sFB at h
  rw [hf] at h
  simp only [Bool.and_eq_true] at h
  have h2 := List.all_eq_true.mp h.1 _ (mlk_mem hk)
  unfold sRcB at h2
  split at h2
  · next K T N hc =>
    simp only [Bool.and_eq_true, Bool.or_eq_true, beq_iff_eq, List.contains_iff_mem] at h2
    obtain ⟨q1, q2, q3, q4⟩ := h2
    refine ⟨K, T, N, hc, blt_lt q1, q2, q3, ?_⟩
    rcases q4 with q4 | q4
    · exact Or.inl q4
    · exact Or.inr (sSm_ok _ q4)
  · cases h2
theorem sCl_lt {ci : Nat} {r : vw_C} (h : sCl[ci]? = some r) : ci < 19 := (List.getElem?_eq_some_iff.mp h).1
theorem sclass {ci : Nat} {K : String} {T : u_T} {N : Nat} (h : sCl[ci]? = some (K, T, N)) : ∃ (n : Nat) (ty : Nat → FieldType), (∀ x ∈ u_ws K T N, x ∈ lw_all) ∧ (∀ k, k < N → parseFieldDescriptor (T k).2.2.1 = some (ty k)) ∧ (∀ a, a < N → ∀ b, b < N → a ≠ b → (T a).2.1 ≠ (T b).2.1) ∧ Jvm.Cond.instantiable K n ∈ lw_all ∧ Jvm.Cond.initialized K ∈ lw_all ∧ (mcn ci).1 = n ∧ (∀ k, k < N → defaultValue (ty k) = (mcn ci).2 k) ∧ mcnm ci = K := by
  obtain ⟨K', T', N', n, ty, h1, h2⟩ := sC_all ci (sCl_lt h)
  cases h.symm.trans h1
  exact ⟨n, ty, h2⟩
section SND3
variable {p : Program} {l : Launch} {e : Env} {R : Room} {s : State} {m : MethodId} {args : Array Value} {below : List Frame} {meth : Method} {c : Code} {H : Heap} {locs : List Loc} {cells slots : Nat} {Q : State → Prop} {cc : ByteArray} {pc : Nat} {rls : Array Slot} {w : sWd} {rest : List Value} {a : Nat}
theorem s_getf (G : sGood w) (hW : w.1.WarmedH s.vm) (hx : p.tables.exec = Jvm.exec) (hb : c.code = cc) {f : Nat} {own : String} {idx : Nat} {ref n d : String} {nest : Bool} (hf : mlk2 sfI f = some (own, idx, ref, n, d, nest)) (hown : s.vm.findClass own = some m.cls) {ci k : Nat} (hk : mlk (mfT f).2 ci = some k) {V : Nat → Value} (hO : sOb w ci V a H) (hd : decode cc pc = .ok (.getfield idx, 3))
    (kk : W p l e R s m args below meth c H locs cells slots Q (F0 m (pc + 3) rls (V k :: rest))) : W p l e R s m args below meth c H locs cells slots Q (F0 m pc rls (.ref a :: rest)) := by
  obtain ⟨K, T, N, hc, hkN, hn, hdd, hsm⟩ := sf_recv hf hk
  obtain ⟨n', ty, hin, -⟩ := sclass hc
  obtain ⟨r, h1, ⟨cell, q1, q2, q3, q4⟩, -⟩ := hO
  cases h1.symm.trans hc
  have hts : ∀ x ∈ lw_all, x.before args s = true := fun x hx => sword G hW hx args
  obtain ⟨hS, hfc, kC, hkC, hkind⟩ := (skn G hW).1 ci _ hc
  obtain ⟨cf, kf, fi, f0, hi, hsl⟩ := hS k hkN
  have hst := (u_facts hfc hkC (u_lays hts hin hkN) hi).1
  rw [hn, hdd] at hi
  have hsame : s.fieldFound? ref n d = some (cf, kf, fi, f0) := by
    rcases hsm with q | q
    · rw [← q]; exact hi
    · exact u_same (hts _ q) _ hi
  have hfo := sF_all f (sf_lt hf) own idx ref n d nest hf
  cases nest with
  | false => exact W.getf hx hb hown (hts _ hfo) hsame hst q1 (by rw [q3]; exact fun h => by cases h) (v := V k) (by rw [hsl]; exact q4 k hkN) rfl rfl hd kk
  | true => exact va_Wgetf hx hb hown (va_Nw.use rfl (va_Nw.warmF hW (va_Nw.of rfl (G.1 _ hfo)))) hsame hst q1 (by rw [q3]; exact fun h => by cases h) (v := V k) (by rw [hsl]; exact q4 k hkN) rfl rfl hd kk
/-- what a final field's store asks of the method -/
def sFinOK (meth : Method) (own : String) (f : Nat) (nest : Bool) : Prop := ∀ ci k K T N, mlk (mfT f).2 ci = some k → sCl[ci]? = some (K, T, N) → (T k).2.2.2 = true → meth.name = "<init>" ∧ (T k).1 = own ∧ nest = false
theorem sfit {ty : FieldType} {kd : Nat} {v : Value} (hk : (match some ty with
    | some .int => Nat.beq kd 0
    | some .boolean => Nat.beq kd 1
    | some (.object _) => Nat.beq kd 2
    | some (.array _) => Nat.beq kd 2
    | _ => false) = true) (hv : (kd = 0 ∧ ∃ x, v = .int x) ∨ (kd = 1 ∧ (v = .int 0 ∨ v = .int 1)) ∨ (kd = 2 ∧ (v = .null ∨ ∃ a, v = .ref a))) : narrow ty v = v ∧ fits ty v = true := by
  rcases hv with ⟨rfl, x, rfl⟩ | ⟨rfl, hv⟩ | ⟨rfl, hv⟩
  · cases ty <;> first | exact ⟨rfl, rfl⟩ | cases hk
  · cases ty <;> first | (rcases hv with rfl | rfl <;> exact ⟨rfl, rfl⟩) | cases hk
  · cases ty <;> first | (rcases hv with rfl | ⟨a, rfl⟩ <;> exact ⟨rfl, rfl⟩) | cases hk
theorem s_putf (G : sGood w) (hW : w.1.WarmedH s.vm) (hx : p.tables.exec = Jvm.exec) (hb : c.code = cc) {f : Nat} {own : String} {idx : Nat} {ref n d : String} {nest : Bool} (hf : mlk2 sfI f = some (own, idx, ref, n, d, nest)) (hown : s.vm.findClass own = some m.cls) (hfin : sFinOK meth own f nest) {ci k : Nat} (hk : mlk (mfT f).2 ci = some k) {V : Nat → Value} (hO : sOb w ci V a H) {v : Value}
    (hv : ((mfT f).1 = 0 ∧ ∃ x, v = .int x) ∨ ((mfT f).1 = 1 ∧ (v = .int 0 ∨ v = .int 1)) ∨ ((mfT f).1 = 2 ∧ (v = .null ∨ ∃ a, v = .ref a))) (hd : decode cc pc = .ok (.putfield idx, 3))
    (kk : ∀ (H1 : Heap) (i : Nat), sOb w ci (updV V k v) a H1 → H1.size = H.size → (∀ q, q ≠ a → H1[q]? = H[q]?) → W p l e R s m args below meth c H1 (locs ++ [⟨a, i⟩]) cells slots Q (F0 m (pc + 3) rls rest)) : W p l e R s m args below meth c H locs cells slots Q (F0 m pc rls (v :: .ref a :: rest)) := by
  obtain ⟨K, T, N, hc, hkN, hn, hdd, hsm⟩ := sf_recv hf hk
  obtain ⟨n', ty, hin, hty, hnm, -⟩ := sclass hc
  obtain ⟨r, h1, ⟨cell, q1, q2, q3, q4⟩, hmn⟩ := hO
  cases h1.symm.trans hc
  have hts : ∀ x ∈ lw_all, x.before args s = true := fun x hx => sword G hW hx args
  have hap := va_apart (own := own) hts hin ty hty hnm (skn G hW) hc
  obtain ⟨hS, hfc, kC, hkC, hkind⟩ := (skn G hW).1 ci _ hc
  obtain ⟨cf, kf, fi, f0, hi, hsl⟩ := hS k hkN
  have hst := (u_facts hfc hkC (u_lays hts hin hkN) hi).1
  have hB := sFB_all f (sf_lt hf)
  unfold sFB at hB
  rw [hf] at hB
  simp only [Bool.and_eq_true] at hB
  have hpd : parseFieldDescriptor d = some (ty k) := by rw [← hdd]; exact hty k hkN
  have hB2 := hB.2
  rw [hpd] at hB2
  obtain ⟨hnar, hfits⟩ := sfit hB2 hv
  have hlay := hts _ (hin _ (u_in_lay hkN))
  have hi' := hi
  rw [hn, hdd] at hi
  have hsame : s.fieldFound? ref n d = some (cf, kf, fi, f0) := by
    rcases hsm with q | q
    · rw [← q]; exact hi
    · exact u_same (hts _ q) _ hi
  have hfo := sF_all f (sf_lt hf) own idx ref n d nest hf
  have hlt : f0.slot < cell.slots.size := by rw [hsl]; exact k2_hasslot (q4 k hkN)
  have fin : ∀ H' : Heap, H'[a]? = some (cell.setSlot f0.slot v) → H'.size = H.size → (∀ q, q ≠ a → H'[q]? = H[q]?) → W p l e R s m args below meth c H' (locs ++ [⟨a, f0.slot⟩]) cells slots Q (F0 m (pc + 3) rls rest) := by
    intro H' e1 e2 e3
    rw [hsl] at e1
    exact kk H' f0.slot ⟨_, hc, ⟨_, e1, q2, q3, t_set q4 hap hkN v⟩, fun x hx => by rw [e1] at hx; cases hx; exact hmn cell q1⟩ e2 e3
  unfold u_lay at hlay
  cases hff : (T k).2.2.2 with
  | true =>
    obtain ⟨g1, g2, g3⟩ := hfin ci k K T N hk hc hff
    subst g3
    rw [if_pos hff] at hlay
    have hcf : m.cls = cf := by
      obtain ⟨_, _, c', _, _, _, -, -, hf', -, -, -, hown2, -⟩ := Cond.laysFinal_spec hlay
      have e1 : c' = cf := by have := hi'.symm.trans hf'; simp at this; exact this.1.symm
      rw [g2] at hown2
      rw [← e1]; exact Option.some.inj (hown.symm.trans hown2)
    have h6 := u_fits hfc hkC hkind (Or.inr hlay) hi' (hty k hkN) hnar hfits
    exact W.putFinK hx hb hown (hts _ hfo) hsame hst hcf g1 (by rw [q2]; exact h6) q1 q3 hlt rfl rfl hd fin
  | false =>
    rw [if_neg (by rw [hff]; decide)] at hlay
    have h6 := u_store hfc hkC hkind hlay hi' (hty k hkN) hnar hfits
    cases nest with
    | false => exact W.putK hx hb (f := f0) ⟨hown, hts _ hfo, ⟨_, _, _, hsame⟩, hst⟩ (by rw [q2]; exact h6) q1 q3 hlt rfl rfl hd fin
    | true => exact va_WputK hx hb (f := f0) hown (va_Nw.use rfl (va_Nw.warmF hW (va_Nw.of rfl (G.1 _ hfo)))) hsame hst (by rw [q2]; exact h6) q1 q3 hlt rfl rfl hd fin
theorem s_new (G : sGood w) (hW : w.1.WarmedH s.vm) (hx : p.tables.exec = Jvm.exec) (hb : c.code = cc) {own : String} {idx ci : Nat} (hown : s.vm.findClass own = some m.cls) (hci : ci < 19) (hcl : Jvm.Cond.classLink own idx (mcnm ci) ∈ lw_all) (hcells : cells + 1 ≤ R.cells) (hslots : slots + (mcn ci).1 ≤ R.slots) (hd : decode cc pc = .ok (.new idx, 3))
    (kk : ∀ H1 : Heap, sOb w ci (mcn ci).2 H.size H1 → H1.size = H.size + 1 → (∀ q, q < H.size → H1[q]? = H[q]?) → W p l e R s m args below meth c H1 locs (cells + 1) (slots + (mcn ci).1) Q (F0 m (pc + 3) rls (.ref H.size :: rest))) : W p l e R s m args below meth c H locs cells slots Q (F0 m pc rls rest) := by
  obtain ⟨K, T, N, n', ty, hc, hin, hty, hnm, hins, hini, hN, hdv, hnmc⟩ := sC_all ci hci
  have hts : ∀ x ∈ lw_all, x.before args s = true := fun x hx => sword G hW hx args
  have hKn := (skn G hW).1 ci _ hc
  rw [hnmc] at hcl
  rw [hN] at hslots kk
  refine W.newcK hx hb hown (hts _ hcl) (hts _ hins) (hts _ hini) rfl hd hcells hslots hKn.2.1 rfl fun H1 kC hkC e1 z1 o1 => ?_
  exact kk H1 ⟨_, hc, (u_born ty hts hin hKn hkC e1 hty).to hdv, fun x hx => by rw [e1] at hx; cases hx; exact ⟨rfl, rfl⟩⟩ z1 o1
theorem RA_inj {U : State} {c1 c2 : ClassId} {ty : FieldType} (h : va_RA U c1 ty) (h2 : U.vm.findClass ("[" ++ ty.toString) = some c2) : c2 = c1 := by
  cases ty with
  | object C =>
    obtain ⟨kA, comp, -, -, -, h4⟩ := h
    exact Option.some.inj (h2.symm.trans h4)
  | _ => exact Option.some.inj (h2.symm.trans h)
theorem s_newa (G : sGood w) (hW : w.1.WarmedH s.vm) (hx : p.tables.exec = Jvm.exec) (hb : c.code = cc) {at_ : ArrayType} (hat : newarray.typeOf at_ ∈ sTys) (harr : Jvm.Cond.arrayClass (newarray.typeOf at_) ∈ lw_all) {n : Int32} (hn : ¬ n < 0) (hN : n.toNatClampNeg ≤ 65536) (hby : componentBytes (newarray.typeOf at_) ≤ 8) (hcells : cells + 1 ≤ R.cells) (hslots : slots + n.toNatClampNeg ≤ R.slots) (hd : decode cc pc = .ok (.newarray at_, 2))
    (kk : ∀ H1 : Heap, H1[H.size]? = some (arrV (w.2.2.2.2.1 (newarray.typeOf at_)) n.toNatClampNeg (fun _ => defaultValue (newarray.typeOf at_))) → H1.size = H.size + 1 → (∀ q, q < H.size → H1[q]? = H[q]?) → W p l e R s m args below meth c H1 locs (cells + 1) (slots + n.toNatClampNeg) Q (F0 m (pc + 2) rls (.ref H.size :: rest))) : W p l e R s m args below meth c H locs cells slots Q (F0 m pc rls (.int n :: rest)) := by
  refine va_newaK hx hb (sword G hW harr args) rfl hd rfl hn rfl (Nat.le_trans (Nat.mul_le_mul hN hby) (by decide)) hcells hslots rfl fun H1 cA e1 z1 o1 hAr hNm => ?_
  have := RA_inj (stys G hW hat).2 hNm
  subst this
  exact kk H1 e1 z1 o1
theorem s_newq (G : sGood w) (hW : w.1.WarmedH s.vm) (hx : p.tables.exec = Jvm.exec) (hb : c.code = cc) {own K : String} {idx : Nat} (hown : s.vm.findClass own = some m.cls) (hcl : Jvm.Cond.classLink own idx K ∈ lw_all) (hov : Jvm.Cond.arrayOver (.object K) ∈ lw_tbl) (hat : FieldType.object K ∈ sTys) {n : Int32} (hn : ¬ n < 0) (hN : n.toNatClampNeg ≤ 65536) (hcells : cells + 1 ≤ R.cells) (hslots : slots + n.toNatClampNeg ≤ R.slots) (hd : decode cc pc = .ok (.anewarray idx, 3))
    (kk : ∀ H1 : Heap, H1[H.size]? = some (arrV (w.2.2.2.2.1 (.object K)) n.toNatClampNeg (fun _ => .null)) → H1.size = H.size + 1 → (∀ q, q < H.size → H1[q]? = H[q]?) → W p l e R s m args below meth c H1 locs (cells + 1) (slots + n.toNatClampNeg) Q (F0 m (pc + 3) rls (.ref H.size :: rest))) : W p l e R s m args below meth c H locs cells slots Q (F0 m pc rls (.int n :: rest)) := by
  have hao : va_AO K s := va_AO.moved hW.alike (va_AO.of (G.1 _ hov))
  refine W.anew hx hb hown (sword G hW hcl args) (va_AO.use hao) rfl hd rfl hn (by omega) hcells hslots fun cA kA comp f1 f2 f3 f4 => ?_
  have := RA_inj (stys G hW hat).2 f1
  subst this
  refine kk _ ?_ (by rw [Array.size_push]) (fun q hq => by rw [Array.getElem?_push_lt hq, Array.getElem?_eq_getElem hq])
  rw [Array.getElem?_push_size, ← arrV_new]
end SND3
