set_option maxRecDepth 100000
def maI (h : mHS) (j : Nat) (i : Int32) (K : Int32 → Prop) : Prop := match mlook h j with
  | some (.inr (.int, n, F)) => vp_in i n ∧ masI (F i.toNatClampNeg) K
  | _ => False
def maB (h : mHS) (j : Nat) (i : Int32) (K : Int32 → Prop) : Prop := match mlook h j with
  | some (.inr (.byte, n, F)) => vp_in i n ∧ masI (F i.toNatClampNeg) K
  | some (.inr (.boolean, n, F)) => vp_in i n ∧ masI (F i.toNatClampNeg) K
  | _ => False
def maL (h : mHS) (j : Nat) (i : Int32) (K : Int64 → Prop) : Prop := match mlook h j with
  | some (.inr (.long, n, F)) => vp_in i n ∧ masL (F i.toNatClampNeg) K
  | _ => False
def maR (h : mHS) (j : Nat) (i : Int32) (K0 : Prop) (K : Nat → Prop) : Prop := match mlook h j with
  | some (.inr (.object _, n, F)) => vp_in i n ∧ masR (F i.toNatClampNeg) K0 K
  | some (.inr (.array _, n, F)) => vp_in i n ∧ masR (F i.toNatClampNeg) K0 K
  | _ => False
def mlen (h : mHS) (j : Nat) (K : Int32 → Prop) : Prop := match mlook h j with
  | some (.inr (_, n, _)) => K (Int32.ofNat n)
  | _ => False
def mwI (h : mHS) (j : Nat) (i x : Int32) (K : mHS → Prop) : Prop := match mlook h j with
  | some (.inr (.int, n, F)) => vp_in i n ∧ (bif Nat.blt j 2 then False else K (mputA h j .int n F i.toNatClampNeg (.int x)))
  | _ => False
def mwB (h : mHS) (j : Nat) (i x : Int32) (K : mHS → Prop) : Prop := match mlook h j with
  | some (.inr (.byte, n, F)) => vp_in i n ∧ (bif Nat.blt j 2 then False else K (mputA h j .byte n F i.toNatClampNeg (.int (vp_nar .byte x))))
  | some (.inr (.boolean, n, F)) => vp_in i n ∧ (bif Nat.blt j 2 then False else K (mputA h j .boolean n F i.toNatClampNeg (.int (vp_nar .boolean x))))
  | _ => False
def mwL (h : mHS) (j : Nat) (i : Int32) (x : Int64) (K : mHS → Prop) : Prop := match mlook h j with
  | some (.inr (.long, n, F)) => vp_in i n ∧ (bif Nat.blt j 2 then False else K (mputA h j .long n F i.toNatClampNeg (.long x)))
  | _ => False
/-- what an array of references takes: an object of just that kind -/
def mwR (h : mHS) (j : Nat) (i : Int32) (a : Nat) (K : mHS → Prop) : Prop := match mlook h j with
  | some (.inr (.object C, n, F)) => vp_in i n ∧ (match mlook h a with
    | some (.inl (ci, _)) => bif Nat.blt j 2 then False else (mcnm ci = C ∧ K (mputA h j (.object C) n F i.toNatClampNeg (.ref a)))
    | _ => False)
  | _ => False
def mgI (h : mHS) (j fid : Nat) (K : Int32 → Prop) : Prop := match mlook h j with
  | some (.inl (ci, V)) => (match mlk (mfT fid).2 ci with
    | some k => masI (V k) K
    | none => False)
  | _ => False
def mgR (h : mHS) (j fid : Nat) (K0 : Prop) (K : Nat → Prop) : Prop := match mlook h j with
  | some (.inl (ci, V)) => (match mlk (mfT fid).2 ci with
    | some k => masR (V k) K0 K
    | none => False)
  | _ => False
def mwF (h : mHS) (j fid : Nat) (v : Value) (K : mHS → Prop) : Prop := match mlook h j with
  | some (.inl (ci, V)) => (match mlk (mfT fid).2 ci with
    | some k => bif mwok h j k (mfT fid).1 then (match (mfT fid).1, v with
      | 0, .int x => K (mputF h j ci V k (.int x))
      | 1, .int x => (x = 0 ∨ x = 1) ∧ K (mputF h j ci V k (.int x))
      | 2, .ref a => K (mputF h j ci V k (.ref a))
      | 2, .null => K (mputF h j ci V k .null)
      | _, _ => False) else False
    | none => False)
  | _ => False
def mnewO (h : mHS) (ci : Nat) (K : mHS → Prop) : Prop := 1 ≤ h.2.2.2.2.1 ∧ (mcn ci).1 ≤ h.2.2.2.2.2.1 ∧ K (mmade h (.inl (ci, (mcn ci).2)) (mcn ci).1)
def mnewA (h : mHS) (ty : FieldType) (v : Value) (n : Int32) (K : mHS → Prop) : Prop := ¬ n < 0 ∧ n.toNatClampNeg ≤ 65536 ∧ 1 ≤ h.2.2.2.2.1 ∧ n.toNatClampNeg ≤ h.2.2.2.2.2.1 ∧ K (mmade h (.inr (ty, n.toNatClampNeg, fun _ => v)) n.toNatClampNeg)
def mlay : List Value → mLs
  | [] => []
  | v :: r => bif mcat1 v then some v :: mlay r else some v :: none :: mlay r
def ment (as : List Value) (n : Nat) : mLs := mlay as ++ List.replicate (n - (mlay as).length) none
def mor (o : mOc) (kv : Option Value → Prop) (kt : Nat → Prop) : Prop := match o with
  | .inl v => kv v
  | .inr a => kt a
def mcl (X : mX) (y : Nat) (as : List Value) (h : mHS) (d : Nat) (Kr : Option Value → mHS → Prop) (Kt : Nat → mHS → Prop) : Prop := match d with
  | 0 => False
  | d + 1 => bif Nat.ble (mlay as).length (mml y) then ∃ Qc : mOc → mHS → Prop, X y 0 (ment as (mml y)) [] h d Qc ∧ ∀ o h', Qc o h' → mor o (fun v => Kr v h') (fun a => Kt a h') else False
def mvt (h : mHS) (j : Nat) (tg : List (Nat × Nat)) (K : Nat → Prop) : Prop := match mlook h j with
  | some (.inl (ci, _)) => (match mlk tg ci with
    | some m => K m
    | none => False)
  | _ => False
def mtk : Nat → List Value → List Value → Option (List Value × List Value)
  | 0, acc, st => some (acc, st)
  | k + 1, acc, v :: st => mtk k (v :: acc) st
  | _ + 1, _, [] => none
def mexc (h : mHS) (a : Nat) : Prop := match mlook h a with
  | some (.inl (ci, _)) => ci = 2 ∨ ci = 8
  | _ => False
/-- an exception that has just been made -/
def mexn (h : mHS) (a : Nat) : Prop := match mlook h a with
  | some (.inl (ci, V)) => (ci = 2 ∨ ci = 8) ∧ V 1 = .null
  | _ => False
def mthr (X : mX) (y pc : Nat) (ls : mLs) (a : Nat) (h : mHS) (d : Nat) (post : mOc → mHS → Prop) : Prop := match mhd y pc with
  | none => post (.inr a) h
  | some hp => mexc h a ∧ X y hp ls [.ref a] h d post
def msw (x : Int32) (K : Nat → Prop) : Int → List Nat → Prop
  | _, [] => True
  | lo, t :: ts => (x.toInt = lo → K t) ∧ msw x K (lo + 1) ts
/-- the place of a sign in the letters; -1: none -/
def mixo (c : Int32) : Int32 :=
  if c = 100 then 0 else if c = 109 then 1 else if c = 114 then 2 else if c = 107 then 3 else if c = 97 then 4 else if c = 98 then 5 else if c = 103 then 6 else if c = 104 then 7 else if c = 110 then 8 else if c = 102 then 9 else if c = 119 then 10 else if c = 120 then 11 else if c = 105 then 12 else -1
def mprim (X : mX) (k : Nat) (as : List Value) (y pc : Nat) (ls : mLs) (r : List Value) (h : mHS) (d : Nat) (post : mOc → mHS → Prop) : Prop := match d with
  | 0 => False
  | d' + 1 => match k, as with
    | 2, [.ref _] => X y pc ls r h (d' + 1) post
    | 3, [.ref j] => bif Nat.blt d' 8 then False else mexn h j ∧ X y pc ls r h (d' + 1) post
    | 4, [.ref 1] => bif Nat.blt d' 8 then False else X y pc ls (.int 13 :: r) h (d' + 1) post
    | 5, [.ref 1, .int c] => bif Nat.blt d' 8 then False else (0 ≤ c ∧ c ≤ 255) ∧ X y pc ls (.int (mixo c) :: r) h (d' + 1) post
    | _, _ => False
def minv (X : mX) (aux len y pc : Nat) (ls : mLs) (st : List Value) (h : mHS) (d : Nat) (post : mOc → mHS → Prop) : Prop := match mlk2 mcT aux with
  | none => False
  | some (kind, argc, tg) => match mtk argc [] st with
    | none => False
    | some (as, r) => bif Nat.blt r.length 9 then (match kind with
      | 0 => (match tg with
        | (_, z) :: _ => mcl X z as h d (fun v h' => X y (pc + len) ls (v.toList ++ r) h' d post) (fun a h' => mthr X y pc ls a h' d post)
        | [] => False)
      | 1 => (match as with
        | .ref j :: _ => mvt h j tg (fun z => mcl X z as h d (fun v h' => X y (pc + len) ls (v.toList ++ r) h' d post) (fun a h' => mthr X y pc ls a h' d post))
        | _ => False)
      | k => mprim X k as y (pc + len) ls r h d post) else False
def mgo (X : mX) (ins : Instr) (len aux y pc : Nat) (ls : mLs) (st : List Value) (h : mHS) (d : Nat) (post : mOc → mHS → Prop) : Prop := match ins, st with
  | .goto _, _ => X y aux ls st h d post
  | .ifCond c _, .int x :: r => (mct c x 0 → X y aux ls r h d post) ∧ (mcf c x 0 → X y (pc + len) ls r h d post)
  | .if_icmp c _, .int z :: .int x :: r => (mct c x z → X y aux ls r h d post) ∧ (mcf c x z → X y (pc + len) ls r h d post)
  | .ifnull _, .null :: r => X y aux ls r h d post
  | .ifnull _, .ref _ :: r => X y (pc + len) ls r h d post
  | .ifnonnull _, .null :: r => X y (pc + len) ls r h d post
  | .ifnonnull _, .ref _ :: r => X y aux ls r h d post
  | .tableswitch _ lo hi _, .int x :: r => (match mswT aux with
    | (df, ts) => msw x (fun t => X y t ls r h d post) lo ts ∧ (x.toInt < lo ∨ hi < x.toInt → X y df ls r h d post))
  | .ldc _, _ => (match mkT aux with
    | .int x => X y (pc + len) ls (.int x :: st) h d post
    | .ref 1 => X y (pc + len) ls (.ref 1 :: st) h d post
    | _ => False)
  | .ldc_w _, _ => (match mkT aux with
    | .int x => X y (pc + len) ls (.int x :: st) h d post
    | _ => False)
  | .ldc2_w _, _ => (match mkT aux with
    | .long x => X y (pc + len) ls (.long x :: st) h d post
    | _ => False)
  | .idiv, .int z :: .int x :: r => ¬ z = 0 ∧ X y (pc + len) ls (.int (x / z) :: r) h d post
  | .irem, .int z :: .int x :: r => ¬ z = 0 ∧ X y (pc + len) ls (.int (x - x / z * z) :: r) h d post
  | .ldiv, .long z :: .long x :: r => ¬ z = 0 ∧ X y (pc + len) ls (.long (x / z) :: r) h d post
  | .lrem, .long z :: .long x :: r => ¬ z = 0 ∧ X y (pc + len) ls (.long (x - x / z * z) :: r) h d post
  | .getfield _, .ref j :: r => bif Nat.beq (mfT aux).1 2 then mgR h j aux (X y (pc + len) ls (.null :: r) h d post) (fun a => X y (pc + len) ls (.ref a :: r) h d post) else mgI h j aux (fun x => X y (pc + len) ls (.int x :: r) h d post)
  | .putfield _, v :: .ref j :: r => mwF h j aux v (fun h' => X y (pc + len) ls r h' d post)
  | .iaload, .int i :: .ref j :: r => maI h j i (fun x => X y (pc + len) ls (.int x :: r) h d post)
  | .baload, .int i :: .ref j :: r => maB h j i (fun x => X y (pc + len) ls (.int x :: r) h d post)
  | .laload, .int i :: .ref j :: r => maL h j i (fun x => X y (pc + len) ls (.long x :: r) h d post)
  | .aaload, .int i :: .ref j :: r => maR h j i (X y (pc + len) ls (.null :: r) h d post) (fun a => X y (pc + len) ls (.ref a :: r) h d post)
  | .iastore, .int x :: .int i :: .ref j :: r => mwI h j i x (fun h' => X y (pc + len) ls r h' d post)
  | .bastore, .int x :: .int i :: .ref j :: r => mwB h j i x (fun h' => X y (pc + len) ls r h' d post)
  | .lastore, .long x :: .int i :: .ref j :: r => mwL h j i x (fun h' => X y (pc + len) ls r h' d post)
  | .aastore, .ref a :: .int i :: .ref j :: r => mwR h j i a (fun h' => X y (pc + len) ls r h' d post)
  | .arraylength, .ref j :: r => mlen h j (fun x => X y (pc + len) ls (.int x :: r) h d post)
  | .new _, _ => mnewO h aux (fun h' => X y (pc + len) ls (.ref h.2.2.2.1 :: st) h' d post)
  | .newarray .int, .int n :: r => mnewA h .int (.int 0) n (fun h' => X y (pc + len) ls (.ref h.2.2.2.1 :: r) h' d post)
  | .newarray .long, .int n :: r => mnewA h .long (.long 0) n (fun h' => X y (pc + len) ls (.ref h.2.2.2.1 :: r) h' d post)
  | .newarray .boolean, .int n :: r => mnewA h .boolean (.int 0) n (fun h' => X y (pc + len) ls (.ref h.2.2.2.1 :: r) h' d post)
  | .newarray .byte, .int n :: r => mnewA h .byte (.int 0) n (fun h' => X y (pc + len) ls (.ref h.2.2.2.1 :: r) h' d post)
  | .anewarray _, .int n :: r => mnewA h (.object (mcnm aux)) .null n (fun h' => X y (pc + len) ls (.ref h.2.2.2.1 :: r) h' d post)
  | .multianewarray _ _, .int n1 :: .int n0 :: r => (n0 = 6 ∧ n1 = 8) ∧ (7 ≤ h.2.2.2.2.1 ∧ 54 ≤ h.2.2.2.2.2.1) ∧ X y (pc + len) ls (.ref h.2.2.2.1 :: r) (mgrid h) d post
  | .invokestatic _, _ => minv X aux len y pc ls st h d post
  | .invokespecial _, _ => minv X aux len y pc ls st h d post
  | .invokevirtual _, _ => minv X aux len y pc ls st h d post
  | .athrow, .ref a :: _ => mthr X y pc ls a h d post
  | .ireturn, [.int x] => bif mrz y then (x = 0 ∨ x = 1) ∧ post (.inl (some (.int x))) h else post (.inl (some (.int x))) h
  | .lreturn, [.long x] => post (.inl (some (.long x))) h
  | .areturn, [.ref a] => post (.inl (some (.ref a))) h
  | .areturn, [.null] => post (.inl (some .null)) h
  | .return_, [] => post (.inl none) h
  | _, _ => False
def mF (X : mX) : mX := fun y pc ls st h d post => match mcode y pc with
  | none => False
  | some (ins, len, aux) => match mpure ins ls st with
    | some (ls', st') => X y (pc + len) ls' st' h d post
    | none => mgo X ins len aux y pc ls st h d post
