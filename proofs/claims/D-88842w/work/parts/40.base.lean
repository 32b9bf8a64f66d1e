/-! the pure side: closed predicates and their rules -/
set_option maxRecDepth 100000
def mC (W : mX) : Prop := ∀ y pc ls st h d post, mF W y pc ls st h d post → W y pc ls st h d post
theorem mC.fi {W : mX} (hW : mC W) (S : List Nat) (y0 : Nat) : ∀ n, mLe (mFi S y0 n W) W
  | 0 => fun _ _ _ _ _ _ _ q => q
  | n + 1 => by
    intro y pc ls st h d post q
    unfold mFi at q
    cases hb : (!(Nat.beq y y0) || (Nat.beq pc 0 || S.any (Nat.beq pc))) with
    | true => rw [hb] at q; exact q
    | false => rw [hb] at q; exact hW _ _ _ _ _ _ _ (mmF (mC.fi hW S y0 n) _ _ _ _ _ _ _ q)
theorem mC.run {W : mX} (hW : mC W) (S : List Nat) (n : Nat) {y pc : Nat} {ls : mLs} {st : List Value} {h : mHS} {d : Nat} {post : mOc → mHS → Prop} (q : mF (mFi S y n W) y pc ls st h d post) : W y pc ls st h d post :=
  hW _ _ _ _ _ _ _ (mmF (hW.fi S y n) _ _ _ _ _ _ _ q)
section BASE
variable {W : mX} {σ τ : mRS} {P : Nat → Option mAE} {nx c s d : Nat}
theorem mcl.of {z : Nat} {as : List Value} {h : mHS} {Kr : Option Value → mHS → Prop} {Kt : Nat → mHS → Prop} (hd : 1 ≤ d) (hl : Nat.ble (mlay as).length (mml z) = true) (k : W z 0 (ment as (mml z)) [] h (d - 1) (fun o h' => mor o (fun v => Kr v h') (fun a => Kt a h'))) : mcl W z as h d Kr Kt := by
  cases d with
  | zero => omega
  | succ d =>
    show (bif Nat.ble (mlay as).length (mml z) then _ else False)
    rw [hl]
    exact ⟨_, k, fun _ _ z => z⟩
theorem mlookP {a : Nat} (ha : 88 ≤ a) : mlook (σ, τ, P, nx, c, s, true) a = P a := by
  have h1 : Nat.blt a 88 = false := blt_false (by omega)
  show (bif (true && (Nat.blt 1 a && Nat.blt a 88)) then _ else P a) = P a
  rw [h1]
  cases Nat.blt 1 a <;> rfl
theorem mInP {a : Nat} (ha : 88 ≤ a) : mIn (σ, τ, P, nx, c, s, true) a = false := by
  have h1 : Nat.blt a 88 = false := blt_false (by omega)
  show (true && (Nat.blt 1 a && Nat.blt a 88)) = false
  rw [h1]
  cases Nat.blt 1 a <;> rfl
theorem bltP {a : Nat} (ha : 88 ≤ a) : Nat.blt a 2 = false := blt_false (by omega)
theorem mgI.p {a fid ci k : Nat} {V : Nat → Value} {x : Int32} {K : Int32 → Prop} (ha : 88 ≤ a) (hP : P a = some (.inl (ci, V))) (hk : mlk (mfT fid).2 ci = some k) (hV : V k = .int x) (q : K x) : mgI (σ, τ, P, nx, c, s, true) a fid K := by
  unfold mgI
  rw [mlookP ha, hP]
  simp only [hk, hV]
  exact q
theorem mgR.p {a fid ci k b : Nat} {V : Nat → Value} {K0 : Prop} {K : Nat → Prop} (ha : 88 ≤ a) (hP : P a = some (.inl (ci, V))) (hk : mlk (mfT fid).2 ci = some k) (hV : V k = .ref b) (q : K b) : mgR (σ, τ, P, nx, c, s, true) a fid K0 K := by
  unfold mgR
  rw [mlookP ha, hP]
  simp only [hk, hV]
  exact q
theorem mgR.n {a fid ci k : Nat} {V : Nat → Value} {K0 : Prop} {K : Nat → Prop} (ha : 88 ≤ a) (hP : P a = some (.inl (ci, V))) (hk : mlk (mfT fid).2 ci = some k) (hV : V k = .null) (q : K0) : mgR (σ, τ, P, nx, c, s, true) a fid K0 K := by
  unfold mgR
  rw [mlookP ha, hP]
  simp only [hk, hV]
  exact q
theorem mvt.p {a ci m : Nat} {V : Nat → Value} {tg : List (Nat × Nat)} {K : Nat → Prop} (ha : 88 ≤ a) (hP : P a = some (.inl (ci, V))) (hk : mlk tg ci = some m) (q : K m) : mvt (σ, τ, P, nx, c, s, true) a tg K := by
  unfold mvt
  rw [mlookP ha, hP]
  simp only [hk]
  exact q
theorem masR.so {x : Option Nat} {a : Nat} {K0 : Prop} {K : Nat → Prop} (h : x = some a) (q : K a) : masR (mrf x) K0 K := by subst h; exact q
theorem masR.no {x : Option Nat} {K0 : Prop} {K : Nat → Prop} (h : x = none) (q : K0) : masR (mrf x) K0 K := by subst h; exact q
theorem maI.p {a n : Nat} {F : Nat → Value} {i x : Int32} {K : Int32 → Prop} (ha : 88 ≤ a) (hP : P a = some (.inr (.int, n, F))) (hi : vp_in i n) (hF : F i.toNatClampNeg = .int x) (q : K x) : maI (σ, τ, P, nx, c, s, true) a i K := by
  unfold maI
  rw [mlookP ha, hP]
  simp only [hF]
  exact ⟨hi, q⟩
theorem maB.p {a n : Nat} {ty : FieldType} (hty : ty = .byte ∨ ty = .boolean) {F : Nat → Value} {i x : Int32} {K : Int32 → Prop} (ha : 88 ≤ a) (hP : P a = some (.inr (ty, n, F))) (hi : vp_in i n) (hF : F i.toNatClampNeg = .int x) (q : K x) : maB (σ, τ, P, nx, c, s, true) a i K := by
  unfold maB
  rw [mlookP ha, hP]
  rcases hty with rfl | rfl
  · simp only [hF]
    exact ⟨hi, q⟩
  · simp only [hF]
    exact ⟨hi, q⟩
theorem maL.p {a n : Nat} {F : Nat → Value} {i : Int32} {x : Int64} {K : Int64 → Prop} (ha : 88 ≤ a) (hP : P a = some (.inr (.long, n, F))) (hi : vp_in i n) (hF : F i.toNatClampNeg = .long x) (q : K x) : maL (σ, τ, P, nx, c, s, true) a i K := by
  unfold maL
  rw [mlookP ha, hP]
  simp only [hF]
  exact ⟨hi, q⟩
theorem mlen.p {a n : Nat} {ty : FieldType} {F : Nat → Value} {K : Int32 → Prop} (ha : 88 ≤ a) (hP : P a = some (.inr (ty, n, F))) (q : K (Int32.ofNat n)) : mlen (σ, τ, P, nx, c, s, true) a K := by
  unfold mlen
  rw [mlookP ha, hP]
  exact q
theorem mputA.p {a n k : Nat} {ty : FieldType} {F : Nat → Value} {v : Value} (ha : 88 ≤ a) : mputA (σ, τ, P, nx, c, s, true) a ty n F k v = (σ, τ, va_up P a (some (.inr (ty, n, va_up F k v))), nx, c, s, true) := by
  unfold mputA
  rw [mInP ha]
  rfl
theorem mputF.p {a ci k : Nat} {V : Nat → Value} {v : Value} (ha : 88 ≤ a) : mputF (σ, τ, P, nx, c, s, true) a ci V k v = (σ, τ, va_up P a (some (.inl (ci, va_up V k v))), nx, c, s, true) := by
  unfold mputF
  rw [mInP ha]
  rfl
theorem mwI.p {a n : Nat} {F : Nat → Value} {i x : Int32} {K : mHS → Prop} (ha : 88 ≤ a) (hP : P a = some (.inr (.int, n, F))) (hi : vp_in i n) (q : K (σ, τ, va_up P a (some (.inr (.int, n, va_up F i.toNatClampNeg (.int x)))), nx, c, s, true)) : mwI (σ, τ, P, nx, c, s, true) a i x K := by
  unfold mwI
  rw [mlookP ha, hP]
  simp only [bltP ha, mputA.p ha]
  exact ⟨hi, q⟩
theorem mwB.p {a n : Nat} {F : Nat → Value} {i x : Int32} {K : mHS → Prop} (ha : 88 ≤ a) (hP : P a = some (.inr (.boolean, n, F))) (hi : vp_in i n) (q : K (σ, τ, va_up P a (some (.inr (.boolean, n, va_up F i.toNatClampNeg (.int (vp_nar .boolean x))))), nx, c, s, true)) : mwB (σ, τ, P, nx, c, s, true) a i x K := by
  unfold mwB
  rw [mlookP ha, hP]
  simp only [bltP ha, mputA.p ha]
  exact ⟨hi, q⟩
theorem mwL.p {a n : Nat} {F : Nat → Value} {i : Int32} {x : Int64} {K : mHS → Prop} (ha : 88 ≤ a) (hP : P a = some (.inr (.long, n, F))) (hi : vp_in i n) (q : K (σ, τ, va_up P a (some (.inr (.long, n, va_up F i.toNatClampNeg (.long x)))), nx, c, s, true)) : mwL (σ, τ, P, nx, c, s, true) a i x K := by
  unfold mwL
  rw [mlookP ha, hP]
  simp only [bltP ha, mputA.p ha]
  exact ⟨hi, q⟩
/-- a reference into an array of the system's own -/
theorem mwR.o {j n a ci : Nat} {C : String} {V : Nat → Value} {i : Int32} {K : mHS → Prop} (hj : mlook (σ, τ, P, nx, c, s, true) j = some (.inr (.object C, n, fun q => mrf (τ.2.2.2.2 j q)))) (h2 : Nat.blt j 2 = false) (h3 : mIn (σ, τ, P, nx, c, s, true) j = true) (h30 : Nat.blt j 30 = true) (ha : 88 ≤ a) (hP : P a = some (.inl (ci, V))) (hC : mcnm ci = C) (hi : vp_in i n) (q : K (σ, msQ τ j i.toNatClampNeg (some a), P, nx, c, s, true)) : mwR (σ, τ, P, nx, c, s, true) j i a K := by
  unfold mwR
  rw [hj]
  refine ⟨hi, ?_⟩
  rw [mlookP ha, hP]
  simp only [h2]
  refine ⟨hC, ?_⟩
  unfold mputA
  rw [h3]
  simp only [h30]
  exact q
theorem mwF.p {a fid ci k : Nat} {V : Nat → Value} {v : Value} {K : mHS → Prop} (ha : 88 ≤ a) (hP : P a = some (.inl (ci, V))) (hk : mlk (mfT fid).2 ci = some k) (hv : (match (mfT fid).1, v with
      | 0, .int _ => True
      | 1, .int x => x = 0 ∨ x = 1
      | 2, .ref _ => True
      | 2, .null => True
      | _, _ => False)) (q : K (σ, τ, va_up P a (some (.inl (ci, va_up V k v))), nx, c, s, true)) : mwF (σ, τ, P, nx, c, s, true) a fid v K := by
  unfold mwF
  rw [mlookP ha, hP]
  have hw : mwok (σ, τ, P, nx, c, s, true) a k (mfT fid).1 = true := by
    unfold mwok
    rw [mInP ha]
    rfl
  simp only [hk, hw, cond_true, mputF.p ha]
  split at hv
  · next h1 => simp only [h1]; exact q
  · next h1 => simp only [h1]; exact ⟨hv, q⟩
  · next h1 => simp only [h1]; exact q
  · next h1 => simp only [h1]; exact q
  · exact hv.elim
theorem mprim.o {a y pc : Nat} {ls : mLs} {r : List Value} {h : mHS} {post : mOc → mHS → Prop} (hd : 1 ≤ d) (q : W y pc ls r h d post) : mprim W 2 [.ref a] y pc ls r h d post := by
  cases d with
  | zero => omega
  | succ d => exact q
theorem mprim.x {a y pc : Nat} {ls : mLs} {r : List Value} {h : mHS} {post : mOc → mHS → Prop} (hd : 9 ≤ d) (he : mexn h a) (q : W y pc ls r h d post) : mprim W 3 [.ref a] y pc ls r h d post := by
  cases d with
  | zero => omega
  | succ d =>
    have h1 : Nat.blt d 8 = false := blt_false (by omega)
    show (bif Nat.blt d 8 then False else _)
    rw [h1]
    exact ⟨he, q⟩
theorem mprim.l {y pc : Nat} {ls : mLs} {r : List Value} {h : mHS} {post : mOc → mHS → Prop} (hd : 9 ≤ d) (q : W y pc ls (.int 13 :: r) h d post) : mprim W 4 [.ref 1] y pc ls r h d post := by
  cases d with
  | zero => omega
  | succ d =>
    have h1 : Nat.blt d 8 = false := blt_false (by omega)
    show (bif Nat.blt d 8 then False else _)
    rw [h1]
    exact q
theorem mprim.i {cc : Int32} {y pc : Nat} {ls : mLs} {r : List Value} {h : mHS} {post : mOc → mHS → Prop} (hd : 9 ≤ d) (hc : 0 ≤ cc ∧ cc ≤ 255) (q : W y pc ls (.int (mixo cc) :: r) h d post) : mprim W 5 [.ref 1, .int cc] y pc ls r h d post := by
  cases d with
  | zero => omega
  | succ d =>
    have h1 : Nat.blt d 8 = false := blt_false (by omega)
    show (bif Nat.blt d 8 then False else _)
    rw [h1]
    exact ⟨hc, q⟩
end BASE
/-! numbers -/
theorem clampN {n : Nat} (h : n < 2147483648) : (Int32.ofNat n).toNatClampNeg = n := Int32.toNatClampNeg_ofNat_of_lt h
theorem toIntN {n : Nat} (h : n < 2147483648) : (Int32.ofNat n).toInt = (n : Int) := Int32.toInt_ofNat_of_lt h
theorem ltN {n k : Nat} (h : n < 2147483648) (h2 : k < 2147483648) : Int32.ofNat n < Int32.ofNat k ↔ n < k := by
  rw [Int32.lt_iff_toInt_lt, toIntN h, toIntN h2]
  omega
theorem leN {n k : Nat} (h : n < 2147483648) (h2 : k < 2147483648) : Int32.ofNat n ≤ Int32.ofNat k ↔ n ≤ k := by
  rw [Int32.le_iff_toInt_le, toIntN h, toIntN h2]
  omega
theorem eqN {n k : Nat} (h : n < 2147483648) (h2 : k < 2147483648) : Int32.ofNat n = Int32.ofNat k ↔ n = k := by
  constructor
  · intro e
    have := congrArg Int32.toNatClampNeg e
    rw [clampN h, clampN h2] at this
    exact this
  · intro e
    rw [e]
theorem sucN (n : Nat) : Int32.ofNat n + 1 = Int32.ofNat (n + 1) := by rw [Int32.ofNat_add]; rfl
theorem posN {n : Nat} (h : n < 2147483648) : ¬ Int32.ofNat n < 0 := by
  rw [Int32.lt_iff_toInt_lt, toIntN h]
  simp
theorem vin {n k : Nat} (h : n < k) (hk : k ≤ 2147483648) : vp_in (Int32.ofNat n) k := by
  rintro (q | q)
  · exact posN (by omega) q
  · rw [clampN (by omega)] at q
    omega
/-- a number that is not below nought is a natural one -/
theorem natI {x : Int32} (h : ¬ x < 0) : Int32.ofNat x.toNatClampNeg = x ∧ x.toNatClampNeg < 2147483648 ∧ x.toInt = (x.toNatClampNeg : Int) := by
  have h0 : 0 ≤ x.toInt := by
    have h1 := Int32.not_lt.mp h
    have h2 := Int32.le_iff_toInt_le.mp h1
    simpa using h2
  have h1 : x.toInt < 2147483648 := x.toInt_lt
  have h2 : x.toInt = (x.toNatClampNeg : Int) := by
    show x.toInt = ((x.toInt.toNat : Nat) : Int)
    omega
  have h3 : x.toNatClampNeg < 2147483648 := by omega
  refine ⟨?_, h3, h2⟩
  apply Int32.toInt_inj.mp
  rw [toIntN h3, h2]
theorem vinI {x : Int32} {k : Nat} (h : ¬ x < 0) (h2 : x.toNatClampNeg < k) : vp_in x k := by
  rintro (q | q)
  · exact h q
  · omega
theorem cmpL {x y : Int64} : (lg_cmp x y < 0 ↔ x < y) ∧ (lg_cmp x y = 0 ↔ x = y) ∧ (0 < lg_cmp x y ↔ y < x) := by
  unfold lg_cmp
  by_cases h1 : x > y
  · rw [if_pos h1]
    refine ⟨⟨fun h => absurd h (by decide), fun h => absurd h1 (Int64.not_lt.mpr (Int64.le_of_lt h))⟩, ⟨fun h => absurd h (by decide), fun h => ?_⟩, ⟨fun _ => h1, fun _ => by decide⟩⟩
    subst h
    exact absurd h1 (Int64.lt_irrefl)
  · rw [if_neg h1]
    by_cases h2 : x = y
    · subst h2
      rw [if_pos rfl]
      exact ⟨⟨fun h => absurd h (by decide), fun h => absurd h Int64.lt_irrefl⟩, ⟨fun _ => rfl, fun _ => rfl⟩, ⟨fun h => absurd h (by decide), fun h => absurd h Int64.lt_irrefl⟩⟩
    · rw [if_neg h2]
      refine ⟨⟨fun _ => ?_, fun _ => by decide⟩, ⟨fun h => absurd h (by decide), fun h => absurd h h2⟩, ⟨fun h => absurd h (by decide), fun h => absurd h h1⟩⟩
      have h1 : ¬ y < x := h1
      rw [Int64.lt_iff_toInt_lt] at h1 ⊢
      have h3 : x.toInt ≠ y.toInt := fun e => h2 (Int64.toInt_inj.mp e)
      omega
/-! ends of methods, by what they answer -/
abbrev mT : Type := mRS × (Nat → Option mAE) × Nat × Nat × Nat × Bool
def qI (post : mOc → mHS → Prop) (T : mT) (r : Int32 × mRS) : Prop := post (.inl (some (.int r.1))) (r.2, T)
def qJ (post : mOc → mHS → Prop) (T : mT) (r : Int64 × mRS) : Prop := post (.inl (some (.long r.1))) (r.2, T)
def qV (post : mOc → mHS → Prop) (T : mT) (r : mRS) : Prop := post (.inl none) (r, T)
def qi (post : mOc → mHS → Prop) (h : mHS) (r : Int32) : Prop := post (.inl (some (.int r))) h
def qj (post : mOc → mHS → Prop) (h : mHS) (r : Int64) : Prop := post (.inl (some (.long r))) h
theorem if_X {α : Type} {K : α → Prop} {e : Prop} [Decidable e] {A B : α} (h : K (if e then A else B)) : (e → K A) ∧ (¬ e → K B) := ⟨fun q => by rw [if_pos q] at h; exact h, fun q => by rw [if_neg q] at h; exact h⟩
