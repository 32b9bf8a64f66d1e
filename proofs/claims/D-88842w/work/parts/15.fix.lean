/-! the least fixed point, its rules -/
set_option maxRecDepth 100000
/-- a change of the abstract heap that every real heap bears: given as a relation of the run's own (see soundness) -/
def mMW (Gh : mHS → mHS → Prop) : mX := fun y pc ls st h d post => ∀ X : mX, (∀ y pc ls st h d post, mF X y pc ls st h d post → X y pc ls st h d post) → (∀ y pc ls st h h' d post, Gh h h' → X y pc ls st h' d post → X y pc ls st h d post) → X y pc ls st h d post
def mLe (X Y : mX) : Prop := ∀ y pc ls st h d post, X y pc ls st h d post → Y y pc ls st h d post
theorem mmasI {v : Value} {K L : Int32 → Prop} (hk : ∀ x, K x → L x) (h : masI v K) : masI v L := by
  cases v <;> first | exact hk _ h | exact h
theorem mmasL {v : Value} {K L : Int64 → Prop} (hk : ∀ x, K x → L x) (h : masL v K) : masL v L := by
  cases v <;> first | exact hk _ h | exact h
theorem mmasR {v : Value} {K0 L0 : Prop} {K L : Nat → Prop} (h0 : K0 → L0) (hk : ∀ x, K x → L x) (h : masR v K0 K) : masR v L0 L := by
  cases v <;> first | exact hk _ h | exact h0 h | exact h
theorem mmaI {h : mHS} {j : Nat} {i : Int32} {K L : Int32 → Prop} (hk : ∀ x, K x → L x) (q : maI h j i K) : maI h j i L := by
  unfold maI at q ⊢
  split at q <;> first | exact ⟨q.1, mmasI hk q.2⟩ | exact q.elim
theorem mmaB {h : mHS} {j : Nat} {i : Int32} {K L : Int32 → Prop} (hk : ∀ x, K x → L x) (q : maB h j i K) : maB h j i L := by
  unfold maB at q ⊢
  split at q <;> first | exact ⟨q.1, mmasI hk q.2⟩ | exact q.elim
theorem mmaL {h : mHS} {j : Nat} {i : Int32} {K L : Int64 → Prop} (hk : ∀ x, K x → L x) (q : maL h j i K) : maL h j i L := by
  unfold maL at q ⊢
  split at q <;> first | exact ⟨q.1, mmasL hk q.2⟩ | exact q.elim
theorem mmaR {h : mHS} {j : Nat} {i : Int32} {K0 L0 : Prop} {K L : Nat → Prop} (h0 : K0 → L0) (hk : ∀ x, K x → L x) (q : maR h j i K0 K) : maR h j i L0 L := by
  unfold maR at q ⊢
  split at q <;> first | exact ⟨q.1, mmasR h0 hk q.2⟩ | exact q.elim
theorem mmlen {h : mHS} {j : Nat} {K L : Int32 → Prop} (hk : ∀ x, K x → L x) (q : mlen h j K) : mlen h j L := by
  unfold mlen at q ⊢
  split at q <;> first | exact hk _ q | exact q.elim
theorem mmcond {b : Bool} {A B : Prop} (h : A → B) (q : bif b then False else A) : bif b then False else B := by
  cases b <;> first | exact h q | exact q
theorem mmwI {h : mHS} {j : Nat} {i x : Int32} {K L : mHS → Prop} (hk : ∀ x, K x → L x) (q : mwI h j i x K) : mwI h j i x L := by
  unfold mwI at q ⊢
  split at q <;> first | exact ⟨q.1, mmcond (hk _) q.2⟩ | exact q.elim
theorem mmwB {h : mHS} {j : Nat} {i x : Int32} {K L : mHS → Prop} (hk : ∀ x, K x → L x) (q : mwB h j i x K) : mwB h j i x L := by
  unfold mwB at q ⊢
  split at q <;> first | exact ⟨q.1, mmcond (hk _) q.2⟩ | exact q.elim
theorem mmwL {h : mHS} {j : Nat} {i : Int32} {x : Int64} {K L : mHS → Prop} (hk : ∀ x, K x → L x) (q : mwL h j i x K) : mwL h j i x L := by
  unfold mwL at q ⊢
  split at q <;> first | exact ⟨q.1, mmcond (hk _) q.2⟩ | exact q.elim
theorem mmwR {h : mHS} {j : Nat} {i : Int32} {a : Nat} {K L : mHS → Prop} (hk : ∀ x, K x → L x) (q : mwR h j i a K) : mwR h j i a L := by
  unfold mwR at q ⊢
  split at q
  · refine ⟨q.1, ?_⟩
    have q2 := q.2
    split at q2
    · exact mmcond (fun z => ⟨z.1, hk _ z.2⟩) q2
    · exact q2.elim
  · exact q.elim
theorem mmgI {h : mHS} {j f : Nat} {K L : Int32 → Prop} (hk : ∀ x, K x → L x) (q : mgI h j f K) : mgI h j f L := by
  unfold mgI at q ⊢
  split at q
  · split at q <;> first | exact mmasI hk q | exact q.elim
  · exact q.elim
theorem mmgR {h : mHS} {j f : Nat} {K0 L0 : Prop} {K L : Nat → Prop} (h0 : K0 → L0) (hk : ∀ x, K x → L x) (q : mgR h j f K0 K) : mgR h j f L0 L := by
  unfold mgR at q ⊢
  split at q
  · split at q <;> first | exact mmasR h0 hk q | exact q.elim
  · exact q.elim
theorem mmwF {h : mHS} {j f : Nat} {v : Value} {K L : mHS → Prop} (hk : ∀ x, K x → L x) (q : mwF h j f v K) : mwF h j f v L := by
  unfold mwF at q ⊢
  split at q
  · split at q
    · next k hk2 =>
      cases hb : mwok h j k (mfT f).1 with
      | false => rw [hb] at q; exact q.elim
      | true =>
        rw [hb] at q
        simp only [cond_true] at q ⊢
        split at q <;> first | exact hk _ q | exact ⟨q.1, hk _ q.2⟩ | exact q.elim
    · exact q.elim
  · exact q.elim
theorem mmnewO {h : mHS} {c : Nat} {K L : mHS → Prop} (hk : ∀ x, K x → L x) (q : mnewO h c K) : mnewO h c L := ⟨q.1, q.2.1, hk _ q.2.2⟩
theorem mmnewA {h : mHS} {ty : FieldType} {v : Value} {n : Int32} {K L : mHS → Prop} (hk : ∀ x, K x → L x) (q : mnewA h ty v n K) : mnewA h ty v n L := ⟨q.1, q.2.1, q.2.2.1, q.2.2.2.1, hk _ q.2.2.2.2⟩
theorem mmor {o : mOc} {a b : Option Value → Prop} {c e : Nat → Prop} (h1 : ∀ v, a v → b v) (h2 : ∀ x, c x → e x) (q : mor o a c) : mor o b e := by
  cases o <;> first | exact h1 _ q | exact h2 _ q
/-- what a step asks of the two predicates to be carried from one end and depth to another -/
def mTo (X Y : mX) (d d' : Nat) (post post' : mOc → mHS → Prop) : Prop := d ≤ d' ∧ (∀ y ls st h e Q, d = e + 1 → ∃ e', d' = e' + 1 ∧ (X y 0 ls st h e Q → Y y 0 ls st h e' Q)) ∧ (∀ y pc ls st h, X y pc ls st h d post → Y y pc ls st h d' post') ∧ ∀ o h, post o h → post' o h
theorem mmcl {X Y : mX} {d d' : Nat} {post post' : mOc → mHS → Prop} (T : mTo X Y d d' post post') {y : Nat} {as : List Value} {h : mHS} {a b : Option Value → mHS → Prop} {c e : Nat → mHS → Prop} (h1 : ∀ v h', a v h' → b v h') (h2 : ∀ v h', c v h' → e v h') (q : mcl X y as h d a c) : mcl Y y as h d' b e := by
  unfold mcl at q ⊢
  cases d with
  | zero => exact q.elim
  | succ d =>
    obtain ⟨T1, T2, T3, T4⟩ := T
    cases d' with
    | zero => omega
    | succ d' =>
      cases hb : Nat.ble (mlay as).length (mml y) with
      | false => rw [hb] at q; exact q.elim
      | true =>
        rw [hb] at q
        obtain ⟨Qc, q1, q2⟩ := q
        obtain ⟨e1, he1, hx1⟩ := T2 y (ment as (mml y)) [] h d Qc rfl
        have he2 : e1 = d' := by omega
        subst he2
        simp only [hb, cond_true]
        exact ⟨Qc, hx1 q1, fun o h' z => mmor (fun v => h1 v h') (fun v => h2 v h') (q2 o h' z)⟩
theorem mmvt {h : mHS} {j : Nat} {tg : List (Nat × Nat)} {K L : Nat → Prop} (hk : ∀ x, K x → L x) (q : mvt h j tg K) : mvt h j tg L := by
  unfold mvt at q ⊢
  split at q
  · split at q <;> first | exact hk _ q | exact q.elim
  · exact q.elim
theorem mmthr {X Y : mX} {d d' : Nat} {post post' : mOc → mHS → Prop} (T : mTo X Y d d' post post') {y pc : Nat} {ls : mLs} {a : Nat} {h : mHS} (q : mthr X y pc ls a h d post) : mthr Y y pc ls a h d' post' := by
  unfold mthr at q ⊢
  split at q
  · exact T.2.2.2 _ _ q
  · exact ⟨q.1, T.2.2.1 _ _ _ _ _ q.2⟩
theorem mmsw {x : Int32} {K L : Nat → Prop} (hk : ∀ t, K t → L t) : ∀ (ts : List Nat) (lo : Int), msw x K lo ts → msw x L lo ts
  | [], _, _ => trivial
  | _ :: ts, _, q => ⟨fun e => hk _ (q.1 e), mmsw hk ts _ q.2⟩
theorem mmblt {d d' : Nat} (h : d ≤ d') {A B : Prop} (hab : A → B) (q : bif Nat.blt d 8 then False else A) : bif Nat.blt d' 8 then False else B := by
  have h1 : Nat.blt d 8 = false := by
    cases hb : Nat.blt d 8 with
    | false => rfl
    | true => rw [hb] at q; exact q.elim
  have h3 : ¬ d < 8 := by
    intro z
    have := Nat.ble_eq_true_of_le (show d + 1 ≤ 8 from z)
    unfold Nat.blt at h1
    rw [this] at h1
    cases h1
  have h2 : Nat.blt d' 8 = false := by
    cases hb : Nat.blt d' 8 with
    | false => rfl
    | true =>
      have : d' + 1 ≤ 8 := Nat.le_of_ble_eq_true hb
      omega
  rw [h1] at q
  rw [h2]
  exact hab q
theorem mmprim {X Y : mX} {d d' : Nat} {post post' : mOc → mHS → Prop} (T : mTo X Y d d' post post') {k : Nat} {as : List Value} {y pc : Nat} {ls : mLs} {r : List Value} {h : mHS} (q : mprim X k as y pc ls r h d post) : mprim Y k as y pc ls r h d' post' := by
  unfold mprim at q ⊢
  obtain ⟨T1, T2, T3, T4⟩ := T
  cases d with
  | zero => exact q.elim
  | succ d =>
    cases d' with
    | zero => omega
    | succ d' =>
      have T1 : d ≤ d' := by omega
      simp only at q ⊢
      split at q
      · exact T3 _ _ _ _ _ q
      · exact mmblt T1 (fun z => ⟨z.1, T3 _ _ _ _ _ z.2⟩) q
      · exact mmblt T1 (fun z => T3 _ _ _ _ _ z) q
      · exact mmblt T1 (fun z => ⟨z.1, T3 _ _ _ _ _ z.2⟩) q
      · exact q.elim
theorem mminv {X Y : mX} {d d' : Nat} {post post' : mOc → mHS → Prop} (T : mTo X Y d d' post post') {aux len y pc : Nat} {ls : mLs} {st : List Value} {h : mHS} (q : minv X aux len y pc ls st h d post) : minv Y aux len y pc ls st h d' post' := by
  unfold minv at q ⊢
  split at q
  · exact q.elim
  · split at q
    · exact q.elim
    · next r _ =>
      cases hb : Nat.blt r.length 9 with
      | false => rw [hb] at q; exact q.elim
      | true =>
        rw [hb] at q
        simp only [cond_true] at q ⊢
        split at q
        · split at q
          · exact mmcl T (fun _ _ => T.2.2.1 _ _ _ _ _) (fun _ _ => mmthr T) q
          · exact q.elim
        · split at q
          · exact mmvt (fun _ => mmcl T (fun _ _ => T.2.2.1 _ _ _ _ _) (fun _ _ => mmthr T)) q
          · exact q.elim
        · exact mmprim T q
set_option maxHeartbeats 4000000 in
theorem mmgo {X Y : mX} {d d' : Nat} {post post' : mOc → mHS → Prop} (T : mTo X Y d d' post post') {ins : Instr} {len aux y pc : Nat} {ls : mLs} {st : List Value} {h : mHS} (q : mgo X ins len aux y pc ls st h d post) : mgo Y ins len aux y pc ls st h d' post' := by
  have K : ∀ y pc ls st h, X y pc ls st h d post → Y y pc ls st h d' post' := T.2.2.1
  unfold mgo at q ⊢
  split at q
  case h_1 => exact K _ _ _ _ _ q
  case h_2 => exact ⟨fun c => K _ _ _ _ _ (q.1 c), fun c => K _ _ _ _ _ (q.2 c)⟩
  case h_3 => exact ⟨fun c => K _ _ _ _ _ (q.1 c), fun c => K _ _ _ _ _ (q.2 c)⟩
  case h_4 => exact K _ _ _ _ _ q
  case h_5 => exact K _ _ _ _ _ q
  case h_6 => exact K _ _ _ _ _ q
  case h_7 => exact K _ _ _ _ _ q
  case h_8 => exact ⟨mmsw (fun _ => K _ _ _ _ _) _ _ q.1, fun c => K _ _ _ _ _ (q.2 c)⟩
  case h_9 => split at q <;> first | exact K _ _ _ _ _ q | exact q.elim
  case h_10 => split at q <;> first | exact K _ _ _ _ _ q | exact q.elim
  case h_11 => split at q <;> first | exact K _ _ _ _ _ q | exact q.elim
  case h_12 => exact ⟨q.1, K _ _ _ _ _ q.2⟩
  case h_13 => exact ⟨q.1, K _ _ _ _ _ q.2⟩
  case h_14 => exact ⟨q.1, K _ _ _ _ _ q.2⟩
  case h_15 => exact ⟨q.1, K _ _ _ _ _ q.2⟩
  case h_16 =>
    cases hb : Nat.beq (mfT aux).1 2 with
    | false => rw [hb] at q; exact mmgI (fun _ => K _ _ _ _ _) q
    | true => rw [hb] at q; exact mmgR (K _ _ _ _ _) (fun _ => K _ _ _ _ _) q
  case h_17 => exact mmwF (fun _ => K _ _ _ _ _) q
  case h_18 => exact mmaI (fun _ => K _ _ _ _ _) q
  case h_19 => exact mmaB (fun _ => K _ _ _ _ _) q
  case h_20 => exact mmaL (fun _ => K _ _ _ _ _) q
  case h_21 => exact mmaR (K _ _ _ _ _) (fun _ => K _ _ _ _ _) q
  case h_22 => exact mmwI (fun _ => K _ _ _ _ _) q
  case h_23 => exact mmwB (fun _ => K _ _ _ _ _) q
  case h_24 => exact mmwL (fun _ => K _ _ _ _ _) q
  case h_25 => exact mmwR (fun _ => K _ _ _ _ _) q
  case h_26 => exact mmlen (fun _ => K _ _ _ _ _) q
  case h_27 => exact mmnewO (fun _ => K _ _ _ _ _) q
  case h_28 => exact mmnewA (fun _ => K _ _ _ _ _) q
  case h_29 => exact mmnewA (fun _ => K _ _ _ _ _) q
  case h_30 => exact mmnewA (fun _ => K _ _ _ _ _) q
  case h_31 => exact mmnewA (fun _ => K _ _ _ _ _) q
  case h_32 => exact mmnewA (fun _ => K _ _ _ _ _) q
  case h_33 => exact ⟨q.1, q.2.1, K _ _ _ _ _ q.2.2⟩
  case h_34 => exact mminv T q
  case h_35 => exact mminv T q
  case h_36 => exact mminv T q
  case h_37 => exact mmthr T q
  case h_38 =>
    cases hb : mrz y with
    | false => rw [hb] at q; exact T.2.2.2 _ _ q
    | true => rw [hb] at q; exact ⟨q.1, T.2.2.2 _ _ q.2⟩
  case h_39 => exact T.2.2.2 _ _ q
  case h_40 => exact T.2.2.2 _ _ q
  case h_41 => exact T.2.2.2 _ _ q
  case h_42 => exact T.2.2.2 _ _ q
  case h_43 => exact q.elim
theorem mmF' {X Y : mX} {d d' : Nat} {post post' : mOc → mHS → Prop} (T : mTo X Y d d' post post') {y pc : Nat} {ls : mLs} {st : List Value} {h : mHS} (q : mF X y pc ls st h d post) : mF Y y pc ls st h d' post' := by
  unfold mF at q ⊢
  split at q
  · exact q.elim
  · split at q
    · exact T.2.2.1 _ _ _ _ _ q
    · exact mmgo T q
theorem mTo.same {X Y : mX} (hXY : mLe X Y) (d : Nat) (post : mOc → mHS → Prop) : mTo X Y d d post post := ⟨Nat.le_refl _, fun _ _ _ _ e _ h => ⟨e, h, hXY _ _ _ _ _ _ _⟩, fun _ _ _ _ _ => hXY _ _ _ _ _ _ _, fun _ _ h => h⟩
theorem mmF {X Y : mX} (hXY : mLe X Y) : mLe (mF X) (mF Y) := fun _ _ _ _ _ d post q => mmF' (mTo.same hXY d post) q
theorem mMW.step {Gh : mHS → mHS → Prop} {y pc : Nat} {ls : mLs} {st : List Value} {h : mHS} {d : Nat} {post : mOc → mHS → Prop} (q : mF (mMW Gh) y pc ls st h d post) : mMW Gh y pc ls st h d post := by
  intro X h1 h2
  exact h1 _ _ _ _ _ _ _ (mmF (fun y pc ls st h d post z => z X h1 h2) _ _ _ _ _ _ _ q)
theorem mMW.ghost {Gh : mHS → mHS → Prop} {y pc : Nat} {ls : mLs} {st : List Value} {h h' : mHS} {d : Nat} {post : mOc → mHS → Prop} (g : Gh h h') (q : mMW Gh y pc ls st h' d post) : mMW Gh y pc ls st h d post := by
  intro X h1 h2
  exact h2 _ _ _ _ _ _ _ _ g (q X h1 h2)
/-- several steps at once, within one method, up to the places S -/
def mFi (S : List Nat) (y0 : Nat) : Nat → mX → mX
  | 0, X => X
  | n + 1, X => fun y pc ls st h d post => bif !(Nat.beq y y0) || (Nat.beq pc 0 || S.any (Nat.beq pc)) then X y pc ls st h d post else mF (mFi S y0 n X) y pc ls st h d post
theorem mFi_le {Gh : mHS → mHS → Prop} (S : List Nat) (y0 : Nat) : ∀ n, mLe (mFi S y0 n (mMW Gh)) (mMW Gh)
  | 0 => fun _ _ _ _ _ _ _ q => q
  | n + 1 => by
    intro y pc ls st h d post q
    unfold mFi at q
    cases hb : (!(Nat.beq y y0) || (Nat.beq pc 0 || S.any (Nat.beq pc))) with
    | true => rw [hb] at q; exact q
    | false => rw [hb] at q; exact mMW.step (mmF (mFi_le S y0 n) _ _ _ _ _ _ _ q)
theorem mMW.run {Gh : mHS → mHS → Prop} (S : List Nat) (n : Nat) {y pc : Nat} {ls : mLs} {st : List Value} {h : mHS} {d : Nat} {post : mOc → mHS → Prop} (q : mF (mFi S y n (mMW Gh)) y pc ls st h d post) : mMW Gh y pc ls st h d post :=
  mMW.step (mmF (mFi_le S y n) _ _ _ _ _ _ _ q)
/-- consequence: a wider end, a greater depth -/
theorem mMW.mono {Gh : mHS → mHS → Prop} {y pc : Nat} {ls : mLs} {st : List Value} {h : mHS} {d : Nat} {post : mOc → mHS → Prop} (q : mMW Gh y pc ls st h d post) : ∀ (d' : Nat) (post' : mOc → mHS → Prop), d ≤ d' → (∀ o h', post o h' → post' o h') → mMW Gh y pc ls st h d' post' := by
  refine q (fun y pc ls st h d post => ∀ (d' : Nat) (post' : mOc → mHS → Prop), d ≤ d' → (∀ o h', post o h' → post' o h') → mMW Gh y pc ls st h d' post') ?_ ?_
  · intro y pc ls st h d post k d' post' hd hp
    refine mMW.step (mmF' ⟨hd, ?_, fun _ _ _ _ _ z => z d' post' hd hp, hp⟩ k)
    intro y ls st h e Q he
    cases d' with
    | zero => omega
    | succ d' => exact ⟨d', rfl, fun z => z d' Q (by omega) (fun _ _ w => w)⟩
  · intro y pc ls st h h' d post g k d' post' hd hp
    exact mMW.ghost g (k d' post' hd hp)
theorem mMW.imp {Gh : mHS → mHS → Prop} {y pc : Nat} {ls : mLs} {st : List Value} {h : mHS} {d : Nat} {post post' : mOc → mHS → Prop} (q : mMW Gh y pc ls st h d post) (hp : ∀ o h', post o h' → post' o h') : mMW Gh y pc ls st h d post' := q.mono d post' (Nat.le_refl _) hp
theorem mMW.deep {Gh : mHS → mHS → Prop} {y pc : Nat} {ls : mLs} {st : List Value} {h : mHS} {d d' : Nat} {post : mOc → mHS → Prop} (q : mMW Gh y pc ls st h d post) (hd : d ≤ d') : mMW Gh y pc ls st h d' post := q.mono d' post hd (fun _ _ w => w)
