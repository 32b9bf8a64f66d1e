/-! soundness, 2: what the abstract heap's changes do to its cells -/
set_option maxRecDepth 100000
def ownB (j : Nat) : Bool := match mlk2 mOT j with
  | some (0, _, _) => !(Nat.blt j 30)
  | some (1, _, _) => Nat.blt j 30
  | some (2, _, _) => Nat.beq j 2
  | some (3, _, _) => Nat.beq j 30
  | some (_, _, _) => false
  | none => true
theorem own_all : ∀ j, j < 88 → ownB j = true := by decide +kernel
theorem own_part (j : Nat) (hj : j < 88) : (match mlk2 mOT j with
  | some (0, _, _) => ¬ j < 30
  | some (1, _, _) => j < 30
  | some (2, _, _) => j = 2
  | some (3, _, _) => j = 30
  | some (_, _, _) => False
  | none => True) := by
  have h := own_all j hj
  unfold ownB at h
  split at h
  · intro q
    have q : Nat.blt j 30 = true := Nat.ble_eq_true_of_le q
    rw [q] at h
    cases h
  · exact blt_lt h
  · exact Nat.eq_of_beq_eq_true h
  · exact Nat.eq_of_beq_eq_true h
  · cases h
  · trivial
theorem own_two : mlk2 mOT 2 = some (2, .int, 0) := rfl
theorem own_thirty : mlk2 mOT 30 = some (3, .int, 0) := rfl
def sCompat (ty : FieldType) (v : Value) : Prop := match ty, v with
  | .int, .int _ => True
  | .byte, .int _ => True
  | .boolean, .int _ => True
  | .long, .long _ => True
  | .object _, .ref _ => True
  | .object _, .null => True
  | .array _, .ref _ => True
  | .array _, .null => True
  | _, _ => False
theorem beq_self (j : Nat) : Nat.beq j j = true := by
  cases hb : Nat.beq j j with
  | true => rfl
  | false => exact absurd rfl (Nat.ne_of_beq_eq_false hb)
theorem beq_ne {i j : Nat} (h : i ≠ j) : Nat.beq i j = false := by
  cases hb : Nat.beq i j with
  | false => rfl
  | true => exact absurd (Nat.eq_of_beq_eq_true hb) h
theorem cont_put {r : mRS} {j k : Nat} {ty : FieldType} {v : Value} (hv : sCompat ty v) : mcont (mputR r j k v) j ty = va_up (mcont r j ty) k v := by
  cases ty <;> cases v <;> first | exact hv.elim | skip
  all_goals
    funext i
    simp only [mcont, mputR, msA, msL, msQ, beq_self, cond_true, upd, vp_updL, va_up]
    by_cases e : i = k
    · simp [e, mrf]
    · simp [e]
theorem cont_other {r : mRS} {j j' k : Nat} {ty : FieldType} {v : Value} (hj : j' ≠ j) : mcont (mputR r j k v) j' ty = mcont r j' ty := by
  cases ty <;> cases v <;> simp [mcont, mputR, msA, msL, msQ, beq_ne hj]
theorem xv_putR {r : mRS} {j k : Nat} {v : Value} : mXV (mputR r j k v) = mXV r := by
  cases v <;> rfl
theorem mv_putR {r : mRS} {j k : Nat} {v : Value} : mMV (mputR r j k v) = mMV r := by
  cases v <;> rfl
/-- the parts of the state that a store leaves -/
def sSame (h h' : mHS) : Prop := h'.2.2.2 = h.2.2.2
theorem mIn_same {h h' : mHS} (q : sSame h h') (j : Nat) : mIn h' j = mIn h j := by
  unfold mIn
  rw [q]
theorem mIn_lt {h : mHS} {j : Nat} (q : mIn h j = true) : 1 < j ∧ j < 88 := by
  unfold mIn at q
  rw [Bool.and_eq_true, Bool.and_eq_true] at q
  exact ⟨blt_lt q.2.1, blt_lt q.2.2⟩
theorem blt_false {a b : Nat} (h : ¬ a < b) : Nat.blt a b = false := by
  cases hb : Nat.blt a b with
  | false => rfl
  | true => exact absurd (blt_lt hb) h
theorem blt_true {a b : Nat} (h : a < b) : Nat.blt a b = true := Nat.ble_eq_true_of_le h
theorem own_arr {σ τ : mRS} {j : Nat} (hj : j < 88) {ty : FieldType} {n : Nat} {F : Nat → Value} (q : mown σ τ j = some (.inr (ty, n, F))) : (j < 30 ∧ mlk2 mOT j = some (1, ty, n) ∧ F = mcont τ j ty) ∨ (¬ j < 30 ∧ mlk2 mOT j = some (0, ty, n) ∧ F = mcont σ j ty) := by
  have hp := own_part j hj
  unfold mown at q
  split at q
  · next ty' n' h0 =>
    rw [h0] at hp
    cases q
    exact Or.inr ⟨hp, h0, rfl⟩
  · next ty' n' h0 =>
    rw [h0] at hp
    cases q
    exact Or.inl ⟨hp, h0, rfl⟩
  · cases q
  · cases q
  · cases q
theorem own_obj {σ τ : mRS} {j : Nat} (hj : j < 88) {ci : Nat} {V : Nat → Value} (q : mown σ τ j = some (.inl (ci, V))) : (j = 2 ∧ ci = 0 ∧ V = mXV τ) ∨ (j = 30 ∧ ci = 1 ∧ V = mMV σ) := by
  have hp := own_part j hj
  unfold mown at q
  split at q
  · cases q
  · cases q
  · next ty' n' h0 =>
    rw [h0] at hp
    cases q
    exact Or.inl ⟨hp, rfl, rfl⟩
  · next x ty' n' h1 h2 h3 h0 =>
    rw [h0] at hp
    cases q
    match x, hp, h1, h2, h3 with
    | 0, _, h1, _, _ => exact (h1 rfl).elim
    | 1, _, _, h2, _ => exact (h2 rfl).elim
    | 2, _, _, _, h3 => exact (h3 rfl).elim
    | 3, hp, _, _, _ => exact Or.inr ⟨hp, rfl, rfl⟩
  · cases q
theorem own_same {σ τ σ' τ' : mRS} {j : Nat} (hσ : ∀ ty, mcont σ' j ty = mcont σ j ty) (hτ : ∀ ty, mcont τ' j ty = mcont τ j ty) (h2 : j = 2 → mXV τ' = mXV τ) (h3 : j = 30 → mMV σ' = mMV σ) (hj : j < 88) : mown σ' τ' j = mown σ τ j := by
  have hp := own_part j hj
  unfold mown
  split
  · rw [hσ]
  · rw [hτ]
  · next h0 => rw [h0] at hp; rw [h2 hp]
  · next x ty' n' q1 q2 q3 h0 =>
    rw [h0] at hp
    match x, hp, q1, q2, q3 with
    | 0, _, h1, _, _ => exact (h1 rfl).elim
    | 1, _, _, h2, _ => exact (h2 rfl).elim
    | 2, _, _, _, h3 => exact (h3 rfl).elim
    | 3, hp, _, _, _ => rw [h3 hp]
  · rfl
theorem look_putA {h : mHS} {j : Nat} {ty : FieldType} {n : Nat} {F : Nat → Value} {k : Nat} {v : Value} (hj : mlook h j = some (.inr (ty, n, F))) (hv : sCompat ty v) :
    sSame h (mputA h j ty n F k v) ∧ mlook (mputA h j ty n F k v) j = some (.inr (ty, n, va_up F k v)) ∧ ∀ j', j' ≠ j → mlook (mputA h j ty n F k v) j' = mlook h j' := by
  unfold mlook at hj
  cases hb : mIn h j with
  | true =>
    rw [hb] at hj
    have hlt := (mIn_lt hb).2
    rcases own_arr hlt hj with ⟨h1, h2, h3⟩ | ⟨h1, h2, h3⟩
    · have e : mputA h j ty n F k v = (h.1, mputR h.2.1 j k v, h.2.2) := by
        unfold mputA
        rw [hb, blt_true h1]
        rfl
      have hs : sSame h (mputA h j ty n F k v) := by rw [e]; exact rfl
      refine ⟨hs, ?_, fun j' hj' => ?_⟩
      · unfold mlook
        rw [mIn_same hs, hb, e]
        show mown h.1 (mputR h.2.1 j k v) j = _
        unfold mown
        rw [h2]
        show some (Sum.inr (ty, n, mcont (mputR h.2.1 j k v) j ty)) = _
        rw [cont_put hv, h3]
      · unfold mlook
        rw [mIn_same hs]
        cases hb' : mIn h j' with
        | false => rw [e]; rfl
        | true =>
          rw [e]
          exact own_same (fun _ => rfl) (fun _ => cont_other hj') (fun _ => xv_putR) (fun _ => rfl) (mIn_lt hb').2
    · have e : mputA h j ty n F k v = (mputR h.1 j k v, h.2) := by
        unfold mputA
        rw [hb, blt_false h1]
        rfl
      have hs : sSame h (mputA h j ty n F k v) := by rw [e]; exact rfl
      refine ⟨hs, ?_, fun j' hj' => ?_⟩
      · unfold mlook
        rw [mIn_same hs, hb, e]
        show mown (mputR h.1 j k v) h.2.1 j = _
        unfold mown
        rw [h2]
        show some (Sum.inr (ty, n, mcont (mputR h.1 j k v) j ty)) = _
        rw [cont_put hv, h3]
      · unfold mlook
        rw [mIn_same hs]
        cases hb' : mIn h j' with
        | false => rw [e]; rfl
        | true =>
          rw [e]
          exact own_same (fun _ => cont_other hj') (fun _ => rfl) (fun _ => rfl) (fun _ => mv_putR) (mIn_lt hb').2
  | false =>
    rw [hb] at hj
    have e : mputA h j ty n F k v = (h.1, h.2.1, va_up h.2.2.1 j (some (.inr (ty, n, va_up F k v))), h.2.2.2) := by
      unfold mputA
      rw [hb]
      rfl
    have hs : sSame h (mputA h j ty n F k v) := by rw [e]; exact rfl
    refine ⟨hs, ?_, fun j' hj' => ?_⟩
    · unfold mlook
      rw [mIn_same hs, hb, e]
      exact va_up_self _ _ _
    · unfold mlook
      rw [mIn_same hs]
      cases hb' : mIn h j' with
      | true => rw [e]; rfl
      | false => rw [e]; exact va_up_ne _ _ hj'
def sCompF (kd : Nat) (v : Value) : Prop := match kd, v with
  | 0, .int _ => True
  | 1, .int _ => True
  | 2, .ref _ => True
  | 2, .null => True
  | _, _ => False
theorem cont_putV {r : mRS} {j k : Nat} {ty : FieldType} {v : Value} : mcont (mputV r k v) j ty = mcont r j ty := by
  cases ty <;> cases v <;> rfl
theorem xv_putV {r : mRS} {k kd : Nat} {v : Value} (hc : sCompF kd v) (hw : (bif Nat.beq kd 2 then (Nat.beq k 29 || Nat.beq k 34) else (mlk mXr k).isNone && !(Nat.beq k 29 || Nat.beq k 34)) = true) : mXV (mputV r k v) = va_up (mXV r) k v := by
  funext i
  by_cases e : i = k
  · subst e
    rw [va_up_self]
    match kd, v, hc with
    | 0, .int x, _ =>
      simp only [Nat.beq, cond_false, Bool.and_eq_true, Bool.not_eq_true', Option.isNone_iff_eq_none] at hw
      simp only [mXV, mputV, msI, hw.1, hw.2, cond_false, beq_self, cond_true]
    | 1, .int x, _ =>
      simp only [Nat.beq, cond_false, Bool.and_eq_true, Bool.not_eq_true', Option.isNone_iff_eq_none] at hw
      simp only [mXV, mputV, msI, hw.1, hw.2, cond_false, beq_self, cond_true]
    | 2, .ref a, _ =>
      have hw : (Nat.beq i 29 || Nat.beq i 34) = true := hw
      have hn : mlk mXr i = none := by
        rw [Bool.or_eq_true] at hw
        rcases hw with q | q <;> (rw [Nat.eq_of_beq_eq_true q]; rfl)
      simp only [mXV, mputV, msP, hn, hw, cond_true, beq_self, mrf]
    | 2, .null, _ =>
      have hw : (Nat.beq i 29 || Nat.beq i 34) = true := hw
      have hn : mlk mXr i = none := by
        rw [Bool.or_eq_true] at hw
        rcases hw with q | q <;> (rw [Nat.eq_of_beq_eq_true q]; rfl)
      simp only [mXV, mputV, msP, hn, hw, cond_true, beq_self, mrf]
  · rw [va_up_ne _ _ e]
    cases v <;> simp only [mXV, mputV, msI, msP, beq_ne e, cond_false]
theorem mv_putV {r : mRS} {k kd : Nat} {v : Value} (hc : sCompF kd v) (hw : (!(Nat.beq kd 2) && (mMr k).isNone) = true) : mMV (mputV r k v) = va_up (mMV r) k v := by
  funext i
  by_cases e : i = k
  · subst e
    rw [va_up_self]
    match kd, v, hc with
    | 0, .int x, _ =>
      simp only [Nat.beq, Bool.not_false, Bool.true_and, Option.isNone_iff_eq_none] at hw
      simp only [mMV, mputV, msI, hw, beq_self, cond_true]
    | 1, .int x, _ =>
      simp only [Nat.beq, Bool.not_false, Bool.true_and, Option.isNone_iff_eq_none] at hw
      simp only [mMV, mputV, msI, hw, beq_self, cond_true]
    | 2, .ref a, _ => cases hw
    | 2, .null, _ => cases hw
  · rw [va_up_ne _ _ e]
    cases v <;> simp only [mMV, mputV, msI, msP, beq_ne e, cond_false]
theorem look_putF {h : mHS} {j ci : Nat} {V : Nat → Value} {k kd : Nat} {v : Value} (hj : mlook h j = some (.inl (ci, V))) (hw : mwok h j k kd = true) (hv : sCompF kd v) :
    sSame h (mputF h j ci V k v) ∧ mlook (mputF h j ci V k v) j = some (.inl (ci, va_up V k v)) ∧ ∀ j', j' ≠ j → mlook (mputF h j ci V k v) j' = mlook h j' := by
  unfold mlook at hj
  unfold mwok at hw
  cases hb : mIn h j with
  | true =>
    rw [hb] at hj hw
    have hlt := (mIn_lt hb).2
    rcases own_obj hlt hj with ⟨h1, h2, h3⟩ | ⟨h1, h2, h3⟩
    · subst h1; subst h2; subst h3
      have e : mputF h 2 0 (mXV h.2.1) k v = (h.1, mputV h.2.1 k v, h.2.2) := by
        unfold mputF
        rw [hb]
        rfl
      have hs : sSame h (mputF h 2 0 (mXV h.2.1) k v) := by rw [e]; exact rfl
      refine ⟨hs, ?_, fun j' hj' => ?_⟩
      · unfold mlook
        rw [mIn_same hs, hb, e]
        show some (Sum.inl (0, mXV (mputV h.2.1 k v))) = _
        rw [xv_putV hv hw]
      · unfold mlook
        rw [mIn_same hs]
        cases hb' : mIn h j' with
        | false => rw [e]; rfl
        | true =>
          rw [e]
          exact own_same (fun _ => rfl) (fun _ => cont_putV) (fun q => absurd q hj') (fun _ => rfl) (mIn_lt hb').2
    · subst h1; subst h2; subst h3
      have e : mputF h 30 1 (mMV h.1) k v = (mputV h.1 k v, h.2) := by
        unfold mputF
        rw [hb]
        rfl
      have hs : sSame h (mputF h 30 1 (mMV h.1) k v) := by rw [e]; exact rfl
      refine ⟨hs, ?_, fun j' hj' => ?_⟩
      · unfold mlook
        rw [mIn_same hs, hb, e]
        show some (Sum.inl (1, mMV (mputV h.1 k v))) = _
        rw [mv_putV hv hw]
      · unfold mlook
        rw [mIn_same hs]
        cases hb' : mIn h j' with
        | false => rw [e]; rfl
        | true =>
          rw [e]
          exact own_same (fun _ => cont_putV) (fun _ => rfl) (fun _ => rfl) (fun q => absurd q hj') (mIn_lt hb').2
  | false =>
    rw [hb] at hj
    have e : mputF h j ci V k v = (h.1, h.2.1, va_up h.2.2.1 j (some (.inl (ci, va_up V k v))), h.2.2.2) := by
      unfold mputF
      rw [hb]
      rfl
    have hs : sSame h (mputF h j ci V k v) := by rw [e]; exact rfl
    refine ⟨hs, ?_, fun j' hj' => ?_⟩
    · unfold mlook
      rw [mIn_same hs, hb, e]
      exact va_up_self _ _ _
    · unfold mlook
      rw [mIn_same hs]
      cases hb' : mIn h j' with
      | true => rw [e]; rfl
      | false => rw [e]; exact va_up_ne _ _ hj'
theorem mIn_made {h : mHS} {e : mAE} {n : Nat} (j : Nat) : mIn (mmade h e n) j = mIn h j := rfl
theorem look_made {h : mHS} {e : mAE} {n : Nat} (hz : mIn h h.2.2.2.1 = false) : mlook (mmade h e n) h.2.2.2.1 = some e ∧ ∀ j, j ≠ h.2.2.2.1 → mlook (mmade h e n) j = mlook h j := by
  refine ⟨?_, fun j hj => ?_⟩
  · unfold mlook
    rw [mIn_made, hz]
    exact va_up_self _ _ _
  · unfold mlook
    rw [mIn_made]
    cases hb : mIn h j with
    | true => rfl
    | false => exact va_up_ne _ _ hj
