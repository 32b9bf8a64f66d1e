/-! soundness, 1: frames; the steps that look at the frame alone -/
set_option maxRecDepth 100000
/-- the real address of an abstract one: the script, the text, the cells from the start's size on -/
def sra (b w z : Nat) (j : Nat) : Nat := match j with
  | 0 => b
  | 1 => w
  | n + 2 => z + n
def str (ρ : Nat → Nat) (v : Value) : Value := match v with
  | .ref j => .ref (ρ j)
  | v => v
theorem str_cat (ρ : Nat → Nat) (v : Value) : (str ρ v).category = v.category := by cases v <;> rfl
theorem str_cat1 {ρ : Nat → Nat} {v : Value} (h : mcat1 v = true) : (str ρ v).category = 1 := by
  cases v <;> first | rfl | cases h
def sLoc (ρ : Nat → Nat) (rls : Array Slot) (nL : Nat) (ls : mLs) : Prop := rls.size = nL ∧ lv_wf rls ∧ ls.length = nL ∧ ∀ (i : Nat) (v : Value), ls[i]? = some (some v) → rls[i]? = some (.val (str ρ v))
def sPairs (ρ : Nat → Nat) (ls : mLs) : List (Nat × Value) := (List.range ls.length).filterMap (fun i => match ls[i]? with
  | some (some v) => some (i, str ρ v)
  | _ => none)
theorem sPairs_mem {ρ : Nat → Nat} {ls : mLs} {i : Nat} {v : Value} (h : ls[i]? = some (some v)) : (i, str ρ v) ∈ sPairs ρ ls := by
  refine List.mem_filterMap.mpr ⟨i, List.mem_range.mpr (List.getElem?_eq_some_iff.mp h).1, ?_⟩
  simp only [h]
theorem sLoc.has {ρ : Nat → Nat} {rls : Array Slot} {nL : Nat} {ls : mLs} (h : sLoc ρ rls nL ls) : lv_has rls nL (sPairs ρ ls) := by
  refine ⟨h.1, h.2.1, fun q hq => ?_⟩
  obtain ⟨i, -, hi⟩ := List.mem_filterMap.mp hq
  split at hi
  · next v hv =>
    cases hi
    exact h.2.2.2 i v hv
  · cases hi
theorem sset {ls : mLs} {i j : Nat} {w : Option Value} {v : Value} (h : (ls.set i w)[j]? = some (some v)) : (j = i ∧ w = some v) ∨ (j ≠ i ∧ ls[j]? = some (some v)) := by
  rw [List.getElem?_set] at h
  by_cases e : i = j
  · subst e
    simp only [if_true] at h
    split at h
    · exact Or.inl ⟨rfl, Option.some.inj h⟩
    · cases h
  · simp only [e, if_false] at h
    exact Or.inr ⟨fun z => e z.symm, h⟩
theorem smst1 {ls : mLs} {i j : Nat} {v w : Value} (h : (mst1 ls i w)[j]? = some (some v)) : (j = i ∧ v = w) ∨ (j ≠ i ∧ ls[j]? = some (some v) ∧ ¬ (j + 1 = i ∧ v.category = 2)) := by
  unfold mst1 at h
  split at h
  · rcases sset h with ⟨e, q⟩ | ⟨e, q⟩
    · exact Or.inl ⟨e, (Option.some.inj q).symm⟩
    · exact Or.inr ⟨e, q, by omega⟩
  · next k =>
    have key : ∀ l2 : mLs, (∀ (jj : Nat) (vv : Value), l2[jj]? = some (some vv) → ls[jj]? = some (some vv)) → (∀ vv : Value, l2[k]? = some (some vv) → ¬ vv.category = 2) → (l2.set (k + 1) (some w))[j]? = some (some v) → (j = k + 1 ∧ v = w) ∨ (j ≠ k + 1 ∧ ls[j]? = some (some v) ∧ ¬ (j + 1 = k + 1 ∧ v.category = 2)) := by
      intro l2 h1 h2 h3
      rcases sset h3 with ⟨e, q⟩ | ⟨e, q⟩
      · exact Or.inl ⟨e, (Option.some.inj q).symm⟩
      · refine Or.inr ⟨e, h1 _ _ q, fun ⟨z1, z2⟩ => ?_⟩
        have : j = k := by omega
        subst this
        exact h2 _ q z2
    split at h
    · refine key _ (fun jj vv q => ?_) (fun vv q => ?_) h
      · rcases sset q with ⟨-, q⟩ | ⟨-, q⟩
        · cases q
        · exact q
      · rcases sset q with ⟨-, q⟩ | ⟨q, -⟩
        · cases q
        · exact absurd rfl q
    · refine key _ (fun jj vv q => ?_) (fun vv q => ?_) h
      · rcases sset q with ⟨-, q⟩ | ⟨-, q⟩
        · cases q
        · exact q
      · rcases sset q with ⟨-, q⟩ | ⟨q, -⟩
        · cases q
        · exact absurd rfl q
    · next n1 n2 =>
      refine key _ (fun jj vv q => q) (fun vv q z => ?_) h
      cases vv with
      | long x => exact n1 x q
      | double x => exact n2 x q
      | _ => exact absurd z (by simp [Value.category])
theorem smst2 {ls : mLs} {i j : Nat} {v w : Value} (h : (mst2 ls i w)[j]? = some (some v)) : (j = i ∧ v = w) ∨ (j ≠ i ∧ j ≠ i + 1 ∧ ls[j]? = some (some v) ∧ ¬ (j + 1 = i ∧ v.category = 2)) := by
  unfold mst2 at h
  rcases sset h with ⟨-, q⟩ | ⟨e, q⟩
  · cases q
  · rcases smst1 q with q | ⟨q1, q2⟩
    · exact Or.inl q
    · exact Or.inr ⟨q1, e, q2⟩
theorem mst1_len (ls : mLs) (i : Nat) (v : Value) : (mst1 ls i v).length = ls.length := by
  unfold mst1
  split
  · simp
  · split <;> simp
theorem sLoc.st1 {ρ : Nat → Nat} {rls : Array Slot} {nL : Nat} {ls : mLs} {i : Nat} {w w' : Value} (hl : ls.length = nL) (hw : w' = str ρ w) (h : lv_has rls nL ((i, w') :: (sPairs ρ ls).filter (fun q => !(q.1 == i) && !(q.1 + 1 == i && q.2.category == 2)))) : sLoc ρ rls nL (mst1 ls i w) := by
  refine ⟨h.1, h.2.1, by rw [mst1_len]; exact hl, fun j v hj => ?_⟩
  rcases smst1 hj with ⟨e1, e2⟩ | ⟨e1, e2, e3⟩
  · subst e1; subst e2; subst hw
    exact h.2.2 (j, str ρ v) List.mem_cons_self
  · refine h.2.2 (j, str ρ v) (List.mem_cons_of_mem _ (List.mem_filter.mpr ⟨sPairs_mem e2, ?_⟩))
    simp only [str_cat, Bool.and_eq_true, Bool.not_eq_true', beq_eq_false_iff_ne, ne_eq, Bool.and_eq_false_iff]
    refine ⟨e1, ?_⟩
    by_cases z : j + 1 = i
    · exact Or.inr (fun z2 => e3 ⟨z, z2⟩)
    · exact Or.inl z
theorem sLoc.st2 {ρ : Nat → Nat} {rls : Array Slot} {nL : Nat} {ls : mLs} {i : Nat} {w w' : Value} (hl : ls.length = nL) (hw : w' = str ρ w) (h : lv_has rls nL ((i, w') :: (sPairs ρ ls).filter (fun q => !(q.1 == i) && (!(q.1 == i + 1) && !(q.1 + 1 == i && q.2.category == 2))))) : sLoc ρ rls nL (mst2 ls i w) := by
  refine ⟨h.1, h.2.1, by unfold mst2; rw [List.length_set, mst1_len]; exact hl, fun j v hj => ?_⟩
  rcases smst2 hj with ⟨e1, e2⟩ | ⟨e1, e0, e2, e3⟩
  · subst e1; subst e2; subst hw
    exact h.2.2 (j, str ρ v) List.mem_cons_self
  · refine h.2.2 (j, str ρ v) (List.mem_cons_of_mem _ (List.mem_filter.mpr ⟨sPairs_mem e2, ?_⟩))
    simp only [str_cat, Bool.and_eq_true, Bool.not_eq_true', beq_eq_false_iff_ne, ne_eq, Bool.and_eq_false_iff]
    refine ⟨e1, e0, ?_⟩
    by_cases z : j + 1 = i
    · exact Or.inr (fun z2 => e3 ⟨z, z2⟩)
    · exact Or.inl z
/-- how many bytes an instruction takes -/
def silen (ins : Instr) : Nat := match ins with
  | .bipush _ => 2
  | .sipush _ => 3
  | .iload _ => 2
  | .lload _ => 2
  | .aload _ => 2
  | .istore _ => 2
  | .lstore _ => 2
  | .astore _ => 2
  | .iinc _ _ => 3
  | .goto _ => 3
  | .ifCond _ _ => 3
  | .if_icmp _ _ => 3
  | .ifnull _ => 3
  | .ifnonnull _ => 3
  | .ldc _ => 2
  | .ldc_w _ => 3
  | .ldc2_w _ => 3
  | .getfield _ => 3
  | .putfield _ => 3
  | .new _ => 3
  | .newarray _ => 2
  | .anewarray _ => 3
  | .multianewarray _ _ => 4
  | .invokestatic _ => 3
  | .invokespecial _ => 3
  | .invokevirtual _ => 3
  | _ => 1
theorem blt_lt {a b : Nat} (h : Nat.blt a b = true) : a < b := Nat.le_of_ble_eq_true h
section SND
variable {p : Program} {l : Launch} {e : Env} {R : Room} {s : State} {m : MethodId} {args : Array Value} {below : List Frame} {meth : Method} {c : Code} {H : Heap} {locs : List Loc} {cells slots : Nat} {Q : State → Prop} {cc : ByteArray} {pc nL : Nat} {rls : Array Slot} {ρ : Nat → Nat}
set_option maxHeartbeats 8000000 in
theorem s_pure (hx : p.tables.exec = Jvm.exec) (hb : c.code = cc) {ins : Instr} (hd : decode cc pc = .ok (ins, silen ins)) {ls ls' : mLs} {st st' : List Value} (hl : sLoc ρ rls nL ls) (hq : mpure ins ls st = some (ls', st'))
    (kk : ∀ r2 : Array Slot, sLoc ρ r2 nL ls' → W p l e R s m args below meth c H locs cells slots Q (F0 m (pc + silen ins) r2 (st'.map (str ρ)))) : W p l e R s m args below meth c H locs cells slots Q (F0 m pc rls (st.map (str ρ))) := by
  have hll := hl.2.2.1
  have hh := hl.has
  unfold mpure at hq
  split at hq
  case h_1 => cases hq; exact lv_iconst hx hb hd rfl (kk _ hl)
  case h_2 => cases hq; exact lv_bipush hx hb hd rfl (kk _ hl)
  case h_3 => cases hq; exact lv_sipush hx hb hd rfl (kk _ hl)
  case h_4 => cases hq; exact lv_lconst hx hb hd rfl (kk _ hl)
  case h_5 => cases hq; exact lv_null hx hb hd (kk _ hl)
  case h_6 =>
    split at hq
    · next x hv => cases hq; exact lv_iload_n hx hb hd rfl (hl.2.2.2 _ _ hv) (kk _ hl)
    · cases hq
  case h_7 =>
    split at hq
    · next x hv => cases hq; exact lv_iload hx hb hd (hl.2.2.2 _ _ hv) (kk _ hl)
    · cases hq
  case h_8 =>
    split at hq
    · next x hv => cases hq; exact lv_lload_n hx hb hd rfl (hl.2.2.2 _ _ hv) (kk _ hl)
    · cases hq
  case h_9 =>
    split at hq
    · next x hv => cases hq; exact lv_lload hx hb hd (hl.2.2.2 _ _ hv) (kk _ hl)
    · cases hq
  case h_10 =>
    split at hq
    · next x hv => cases hq; exact lv_aload_n hx hb hd rfl (hl.2.2.2 _ _ hv) (kk _ hl)
    · next hv => cases hq; exact lv_aload_nN hx hb hd rfl (hl.2.2.2 _ _ hv) (kk _ hl)
    · cases hq
  case h_11 =>
    split at hq
    · next x hv => cases hq; exact lv_aload hx hb hd (hl.2.2.2 _ _ hv) (kk _ hl)
    · next hv => cases hq; exact lv_aloadN hx hb hd (hl.2.2.2 _ _ hv) (kk _ hl)
    · cases hq
  case h_12 n =>
    split at hq
    · next x r =>
      cases hc : Nat.blt (n : Nat) ls.length with
      | false => rw [hc] at hq; cases hq
      | true =>
        rw [hc] at hq; cases hq
        exact lv_istore_n hx hb hd rfl hh (by rw [← hll]; exact blt_lt hc) rfl (fun r2 h2 => kk r2 (sLoc.st1 hll rfl h2))
    · cases hq
  case h_13 n =>
    split at hq
    · next x r =>
      cases hc : Nat.blt n ls.length with
      | false => rw [hc] at hq; cases hq
      | true =>
        rw [hc] at hq; cases hq
        exact lv_istore hx hb hd hh (by rw [← hll]; exact blt_lt hc) rfl (fun r2 h2 => kk r2 (sLoc.st1 hll rfl h2))
    · cases hq
  case h_14 n =>
    split at hq
    · next x r =>
      cases hc : Nat.blt ((n : Nat) + 1) ls.length with
      | false => rw [hc] at hq; cases hq
      | true =>
        rw [hc] at hq; cases hq
        exact lv_lstore_n hx hb hd rfl hh (by rw [← hll]; exact blt_lt hc) rfl (fun r2 h2 => kk r2 (sLoc.st2 hll rfl h2))
    · cases hq
  case h_15 n =>
    split at hq
    · next x r =>
      cases hc : Nat.blt (n + 1) ls.length with
      | false => rw [hc] at hq; cases hq
      | true =>
        rw [hc] at hq; cases hq
        exact lv_lstore hx hb hd hh (by rw [← hll]; exact blt_lt hc) rfl (fun r2 h2 => kk r2 (sLoc.st2 hll rfl h2))
    · cases hq
  case h_16 n =>
    split at hq
    · next x r =>
      cases hc : Nat.blt (n : Nat) ls.length with
      | false => rw [hc] at hq; cases hq
      | true =>
        rw [hc] at hq; cases hq
        exact lv_astore_n hx hb hd rfl hh (by rw [← hll]; exact blt_lt hc) rfl (fun r2 h2 => kk r2 (sLoc.st1 (w := .ref x) hll rfl h2))
    · next r =>
      cases hc : Nat.blt (n : Nat) ls.length with
      | false => rw [hc] at hq; cases hq
      | true =>
        rw [hc] at hq; cases hq
        exact lv_astore_nN hx hb hd rfl hh (by rw [← hll]; exact blt_lt hc) rfl (fun r2 h2 => kk r2 (sLoc.st1 hll rfl h2))
    · cases hq
  case h_17 n =>
    split at hq
    · next x r =>
      cases hc : Nat.blt n ls.length with
      | false => rw [hc] at hq; cases hq
      | true =>
        rw [hc] at hq; cases hq
        exact lv_astore hx hb hd hh (by rw [← hll]; exact blt_lt hc) rfl (fun r2 h2 => kk r2 (sLoc.st1 (w := .ref x) hll rfl h2))
    · next r =>
      cases hc : Nat.blt n ls.length with
      | false => rw [hc] at hq; cases hq
      | true =>
        rw [hc] at hq; cases hq
        exact lv_astoreN hx hb hd hh (by rw [← hll]; exact blt_lt hc) rfl (fun r2 h2 => kk r2 (sLoc.st1 hll rfl h2))
    · cases hq
  case h_18 n k =>
    split at hq
    · next x hv =>
      cases hq
      obtain ⟨j, hj⟩ := List.getElem?_of_mem (sPairs_mem (ρ := ρ) hv)
      exact lv_iinc hx hb hd hh (k := j) hj rfl (by rw [← hll]; exact (List.getElem?_eq_some_iff.mp hv).1) rfl (fun r2 h2 => kk r2 (sLoc.st1 hll rfl h2))
    · cases hq
  case h_19 =>
    split at hq
    · next v r =>
      cases hc : mcat1 v with
      | false => rw [hc] at hq; cases hq
      | true => rw [hc] at hq; cases hq; exact lv_pop hx hb hd (str_cat1 hc) (kk _ hl)
    · cases hq
  case h_20 =>
    split at hq
    · next v r =>
      cases hc : mcat1 v with
      | false => rw [hc] at hq; cases hq
      | true => rw [hc] at hq; cases hq; exact lv_dup hx hb hd (str_cat1 hc) (kk _ hl)
    · cases hq
  case h_21 =>
    split at hq
    · next v w r =>
      cases hc : (mcat1 v && mcat1 w) with
      | false => rw [hc] at hq; cases hq
      | true =>
        rw [hc] at hq; cases hq
        rw [Bool.and_eq_true] at hc
        exact lv_dup_x1 hx hb hd (str_cat1 hc.1) (str_cat1 hc.2) (kk _ hl)
    · cases hq
  case h_22 =>
    split at hq
    · next v w z r =>
      cases hc : (mcat1 v && (mcat1 w && mcat1 z)) with
      | false => rw [hc] at hq; cases hq
      | true =>
        rw [hc] at hq; cases hq
        rw [Bool.and_eq_true, Bool.and_eq_true] at hc
        exact lv_dup_x2 hx hb hd (str_cat1 hc.1) (str_cat1 hc.2.1) (str_cat1 hc.2.2) (kk _ hl)
    · cases hq
  case h_23 =>
    split at hq
    · cases hq; exact lv_dup2_2 hx hb hd rfl (kk _ hl)
    · next v w r _ =>
      cases hc : (mcat1 v && mcat1 w) with
      | false => rw [hc] at hq; cases hq
      | true =>
        rw [hc] at hq; cases hq
        rw [Bool.and_eq_true] at hc
        exact lv_dup2_11 hx hb hd (str_cat1 hc.1) (str_cat1 hc.2) (kk _ hl)
    · cases hq
  case h_24 => split at hq <;> first | (cases hq; exact lv_iadd hx hb hd (kk _ hl)) | cases hq
  case h_25 => split at hq <;> first | (cases hq; exact lv_isub hx hb hd (kk _ hl)) | cases hq
  case h_26 => split at hq <;> first | (cases hq; exact lv_imul hx hb hd (kk _ hl)) | cases hq
  case h_27 => split at hq <;> first | (cases hq; exact lv_iand hx hb hd (kk _ hl)) | cases hq
  case h_28 => split at hq <;> first | (cases hq; exact lv_ior hx hb hd (kk _ hl)) | cases hq
  case h_29 => split at hq <;> first | (cases hq; exact lv_ixor hx hb hd (kk _ hl)) | cases hq
  case h_30 => split at hq <;> first | (cases hq; exact lv_ishl hx hb hd (kk _ hl)) | cases hq
  case h_31 => split at hq <;> first | (cases hq; exact lv_ishr hx hb hd (kk _ hl)) | cases hq
  case h_32 => split at hq <;> first | (cases hq; exact lv_ineg hx hb hd (kk _ hl)) | cases hq
  case h_33 => split at hq <;> first | (cases hq; exact lv_ladd hx hb hd (kk _ hl)) | cases hq
  case h_34 => split at hq <;> first | (cases hq; exact lv_lsub hx hb hd (kk _ hl)) | cases hq
  case h_35 => split at hq <;> first | (cases hq; exact lv_lmul hx hb hd (kk _ hl)) | cases hq
  case h_36 => split at hq <;> first | (cases hq; exact lv_land hx hb hd (kk _ hl)) | cases hq
  case h_37 => split at hq <;> first | (cases hq; exact lv_lor hx hb hd (kk _ hl)) | cases hq
  case h_38 => split at hq <;> first | (cases hq; exact lv_lneg hx hb hd (kk _ hl)) | cases hq
  case h_39 => split at hq <;> first | (cases hq; exact lv_lshl hx hb hd rfl (kk _ hl)) | cases hq
  case h_40 => split at hq <;> first | (cases hq; exact lv_lshr hx hb hd rfl (kk _ hl)) | cases hq
  case h_41 => split at hq <;> first | (cases hq; exact lv_i2l hx hb hd rfl (kk _ hl)) | cases hq
  case h_42 => split at hq <;> first | (cases hq; exact lv_l2i hx hb hd rfl (kk _ hl)) | cases hq
  case h_43 => split at hq <;> first | (cases hq; exact lv_i2b hx hb hd rfl (kk _ hl)) | cases hq
  case h_44 => split at hq <;> first | (cases hq; exact W.lcmp hx hb hd (kk _ hl)) | cases hq
  case h_45 => cases hq
end SND
