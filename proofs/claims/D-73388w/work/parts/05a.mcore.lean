/-! ===== M: a small machine of its own. Values: ints and longs as whole numbers (their residues count), references, junk ===== -/
abbrev zV : Type := Int ⊕ (Option Nat ⊕ (Int ⊕ Unit))
abbrev zi (x : Int) : zV := Sum.inl x
abbrev zr (r : Option Nat) : zV := Sum.inr (Sum.inl r)
abbrev zl (x : Int) : zV := Sum.inr (Sum.inr (Sum.inl x))
abbrev zj : zV := Sum.inr (Sum.inr (Sum.inr ()))
def zn (x : Int) : Int := x.bmod 4294967296
def zm (x : Int) : Int := x.bmod 18446744073709551616
theorem zn_id {x : Int} (h1 : -2147483648 ≤ x) (h2 : x < 2147483648) : zn x = x := by
  unfold zn; rw [Int.bmod_def]; omega
theorem zm_id {x : Int} (h1 : -9223372036854775808 ≤ x) (h2 : x < 9223372036854775808) : zm x = x := by
  unfold zm; rw [Int.bmod_def]; omega
/-- a cell's kind: an object of a class (its number), an array (its components' type, its length) -/
abbrev zKd : Type := Nat ⊕ (FieldType × Nat)
/-- a heap: size, kinds, ints, longs, references, slots made so far -/
abbrev zH : Type := Nat × (Nat → Option zKd) × (Nat → Nat → Int) × (Nat → Nat → Int) × (Nat → Nat → Option Nat) × Nat
def zsz (h : zH) : Nat := h.1
def zK (h : zH) : Nat → Option zKd := h.2.1
def zI (h : zH) : Nat → Nat → Int := h.2.2.1
def zL (h : zH) : Nat → Nat → Int := h.2.2.2.1
def zA (h : zH) : Nat → Nat → Option Nat := h.2.2.2.2.1
def zN (h : zH) : Nat := h.2.2.2.2.2
def zu {α : Type} (f : Nat → Nat → α) (a k : Nat) (x : α) : Nat → Nat → α := fun b j => if b = a ∧ j = k then x else f b j
theorem zu_same {α : Type} (f : Nat → Nat → α) (a k : Nat) (x : α) : zu f a k x a k = x := by simp [zu]
theorem zu_cell {α : Type} (f : Nat → Nat → α) {a b : Nat} (k : Nat) (x : α) (h : b ≠ a) : zu f a k x b = f b := by
  funext j; simp [zu, h]
theorem zu_slot {α : Type} (f : Nat → Nat → α) (a : Nat) {k j : Nat} (x : α) (h : j ≠ k) : zu f a k x a j = f a j := by simp [zu, h]
def zsI (h : zH) (a k : Nat) (x : Int) : zH := (zsz h, zK h, zu (zI h) a k x, zL h, zA h, zN h)
def zsL (h : zH) (a k : Nat) (x : Int) : zH := (zsz h, zK h, zI h, zu (zL h) a k x, zA h, zN h)
def zsA (h : zH) (a k : Nat) (x : Option Nat) : zH := (zsz h, zK h, zI h, zL h, zu (zA h) a k x, zN h)
/-- a new cell, at the end, with default values -/
def znew (h : zH) (kd : zKd) (n : Nat) : zH :=
  (zsz h + 1, fun b => if b = zsz h then some kd else zK h b, fun b => if b = zsz h then fun _ => 0 else zI h b,
    fun b => if b = zsz h then fun _ => 0 else zL h b, fun b => if b = zsz h then fun _ => none else zA h b, zN h + n)
/-- n slots of the cell b from sp on come to the cell a from dp on -/
def zcpy {α : Type} (f : Nat → Nat → α) (a dp b sp n : Nat) : Nat → Nat → α := fun c j => if c = a ∧ dp ≤ j ∧ j < dp + n then f b (sp + (j - dp)) else f c j
def zcpI (h : zH) (a dp b sp n : Nat) : zH := (zsz h, zK h, zcpy (zI h) a dp b sp n, zL h, zA h, zN h)
theorem zsz_sI (h a k x) : zsz (zsI h a k x) = zsz h := rfl
theorem zK_sI (h a k x) : zK (zsI h a k x) = zK h := rfl
theorem zI_sI (h a k x) : zI (zsI h a k x) = zu (zI h) a k x := rfl
theorem zL_sI (h a k x) : zL (zsI h a k x) = zL h := rfl
theorem zA_sI (h a k x) : zA (zsI h a k x) = zA h := rfl
theorem zN_sI (h a k x) : zN (zsI h a k x) = zN h := rfl
theorem zsz_sL (h a k x) : zsz (zsL h a k x) = zsz h := rfl
theorem zK_sL (h a k x) : zK (zsL h a k x) = zK h := rfl
theorem zI_sL (h a k x) : zI (zsL h a k x) = zI h := rfl
theorem zL_sL (h a k x) : zL (zsL h a k x) = zu (zL h) a k x := rfl
theorem zA_sL (h a k x) : zA (zsL h a k x) = zA h := rfl
theorem zN_sL (h a k x) : zN (zsL h a k x) = zN h := rfl
theorem zsz_sA (h a k x) : zsz (zsA h a k x) = zsz h := rfl
theorem zK_sA (h a k x) : zK (zsA h a k x) = zK h := rfl
theorem zI_sA (h a k x) : zI (zsA h a k x) = zI h := rfl
theorem zL_sA (h a k x) : zL (zsA h a k x) = zL h := rfl
theorem zA_sA (h a k x) : zA (zsA h a k x) = zu (zA h) a k x := rfl
theorem zN_sA (h a k x) : zN (zsA h a k x) = zN h := rfl
theorem zsz_new (h kd n) : zsz (znew h kd n) = zsz h + 1 := rfl
theorem zN_new (h kd n) : zN (znew h kd n) = zN h + n := rfl
theorem zK_new (h kd n) : zK (znew h kd n) = fun b => if b = zsz h then some kd else zK h b := rfl
theorem zI_new (h kd n) : zI (znew h kd n) = fun b => if b = zsz h then fun _ => 0 else zI h b := rfl
theorem zL_new (h kd n) : zL (znew h kd n) = fun b => if b = zsz h then fun _ => 0 else zL h b := rfl
theorem zA_new (h kd n) : zA (znew h kd n) = fun b => if b = zsz h then fun _ => none else zA h b := rfl
theorem zsz_cpI (h a dp b sp n) : zsz (zcpI h a dp b sp n) = zsz h := rfl
theorem zK_cpI (h a dp b sp n) : zK (zcpI h a dp b sp n) = zK h := rfl
theorem zI_cpI (h a dp b sp n) : zI (zcpI h a dp b sp n) = zcpy (zI h) a dp b sp n := rfl
theorem zL_cpI (h a dp b sp n) : zL (zcpI h a dp b sp n) = zL h := rfl
theorem zA_cpI (h a dp b sp n) : zA (zcpI h a dp b sp n) = zA h := rfl
theorem zN_cpI (h a dp b sp n) : zN (zcpI h a dp b sp n) = zN h := rfl
/-! ===== actions: what an instruction does, as a transformer of predicates: K what goes on (pc, locals, stack, heap), E an end ===== -/
abbrev zO : Type := Option zV ⊕ Nat
abbrev zC : Type := Nat → List zV → zH → zO → zH → Prop
abbrev zKt : Type := Nat → List zV → List zV → zH → Prop
abbrev zEt : Type := zO → zH → Prop
abbrev zAct : Type := zC → List zV → List zV → zH → zKt → zEt → Prop
/-- handlers at a place, by the class of what is thrown: none: not told; some none: it leaves the method; some (some pc): the handler -/
abbrev zHs : Type := Nat → Option (Option Nat)
def zh0 : zHs := fun _ => some none
def zh1 (cx hp : Nat) : zHs := fun ci => if ci = cx then some (some hp) else none
def zkill (L : List zV) : Nat → List zV
  | 0 => L
  | i + 1 => match L[i]? with
    | some (Sum.inr (Sum.inr (Sum.inl _))) => L.set i zj
    | _ => L
def zput (L : List zV) (i : Nat) (v : zV) : List zV := (zkill L i).set i v
def zput2 (L : List zV) (i : Nat) (v : zV) : List zV := ((zkill L i).set i v).set (i + 1) zj
def zcls (h : zH) (a : Nat) : Nat := match zK h a with
  | some (Sum.inl c) => c
  | _ => 0
def za_no : zAct := fun _ _ _ _ _ _ => False
def za_push (v : zV) (nx : Nat) : zAct := fun _ L S h K _ => K nx L (v :: S) h
def za_ldi (i nx : Nat) : zAct := fun _ L S h K _ => match L[i]? with
  | some (Sum.inl x) => K nx L (Sum.inl x :: S) h
  | _ => False
def za_ldr (i nx : Nat) : zAct := fun _ L S h K _ => match L[i]? with
  | some (Sum.inr (Sum.inl x)) => K nx L (Sum.inr (Sum.inl x) :: S) h
  | _ => False
def za_ldl (i nx : Nat) : zAct := fun _ L S h K _ => match L[i]? with
  | some (Sum.inr (Sum.inr (Sum.inl x))) => K nx L (Sum.inr (Sum.inr (Sum.inl x)) :: S) h
  | _ => False
def za_sti (i nx : Nat) : zAct := fun _ L S h K _ => match S with
  | Sum.inl x :: R => i < L.length ∧ K nx (zput L i (Sum.inl x)) R h
  | _ => False
def za_str (i nx : Nat) : zAct := fun _ L S h K _ => match S with
  | Sum.inr (Sum.inl x) :: R => i < L.length ∧ K nx (zput L i (Sum.inr (Sum.inl x))) R h
  | _ => False
def za_stl (i nx : Nat) : zAct := fun _ L S h K _ => match S with
  | Sum.inr (Sum.inr (Sum.inl x)) :: R => i + 1 < L.length ∧ K nx (zput2 L i (Sum.inr (Sum.inr (Sum.inl x)))) R h
  | _ => False
def za_inc (i : Nat) (c : Int) (nx : Nat) : zAct := fun _ L S h K _ => match L[i]? with
  | some (Sum.inl x) => K nx (zput L i (Sum.inl (x + c))) S h
  | _ => False
def za_i1 (f : Int → Int) (nx : Nat) : zAct := fun _ L S h K _ => match S with
  | Sum.inl x :: R => K nx L (Sum.inl (f x) :: R) h
  | _ => False
def za_i2 (f : Int → Int → Int) (nx : Nat) : zAct := fun _ L S h K _ => match S with
  | Sum.inl y :: Sum.inl x :: R => K nx L (Sum.inl (f x y) :: R) h
  | _ => False
def za_l1 (f : Int → Int) (nx : Nat) : zAct := fun _ L S h K _ => match S with
  | Sum.inr (Sum.inr (Sum.inl x)) :: R => K nx L (Sum.inr (Sum.inr (Sum.inl (f x))) :: R) h
  | _ => False
def za_l2 (f : Int → Int → Int) (nx : Nat) : zAct := fun _ L S h K _ => match S with
  | Sum.inr (Sum.inr (Sum.inl y)) :: Sum.inr (Sum.inr (Sum.inl x)) :: R => K nx L (Sum.inr (Sum.inr (Sum.inl (f x y))) :: R) h
  | _ => False
def za_lsh (f : Int → Int → Int) (nx : Nat) : zAct := fun _ L S h K _ => match S with
  | Sum.inl y :: Sum.inr (Sum.inr (Sum.inl x)) :: R => K nx L (Sum.inr (Sum.inr (Sum.inl (f x y))) :: R) h
  | _ => False
def za_i2l (nx : Nat) : zAct := fun _ L S h K _ => match S with
  | Sum.inl x :: R => K nx L (Sum.inr (Sum.inr (Sum.inl (zn x))) :: R) h
  | _ => False
def za_l2i (nx : Nat) : zAct := fun _ L S h K _ => match S with
  | Sum.inr (Sum.inr (Sum.inl x)) :: R => K nx L (Sum.inl x :: R) h
  | _ => False
def za_lcmp (nx : Nat) : zAct := fun _ L S h K _ => match S with
  | Sum.inr (Sum.inr (Sum.inl y)) :: Sum.inr (Sum.inr (Sum.inl x)) :: R => K nx L (Sum.inl (if zm x < zm y then -1 else if zm x = zm y then 0 else 1) :: R) h
  | _ => False
def za_idiv (nx : Nat) : zAct := fun _ L S h K _ => match S with
  | Sum.inl y :: Sum.inl x :: R => zn y ≠ 0 ∧ K nx L (Sum.inl ((zn x).tdiv (zn y)) :: R) h
  | _ => False
def za_irem (nx : Nat) : zAct := fun _ L S h K _ => match S with
  | Sum.inl y :: Sum.inl x :: R => zn y ≠ 0 ∧ K nx L (Sum.inl ((zn x).tmod (zn y)) :: R) h
  | _ => False
def za_ldiv (nx : Nat) : zAct := fun _ L S h K _ => match S with
  | Sum.inr (Sum.inr (Sum.inl y)) :: Sum.inr (Sum.inr (Sum.inl x)) :: R => zm y ≠ 0 ∧ K nx L (Sum.inr (Sum.inr (Sum.inl ((zm x).tdiv (zm y)))) :: R) h
  | _ => False
def za_lrem (nx : Nat) : zAct := fun _ L S h K _ => match S with
  | Sum.inr (Sum.inr (Sum.inl y)) :: Sum.inr (Sum.inr (Sum.inl x)) :: R => zm y ≠ 0 ∧ K nx L (Sum.inr (Sum.inr (Sum.inl ((zm x).tmod (zm y)))) :: R) h
  | _ => False
def za_goto (tg : Nat) : zAct := fun _ L S h K _ => K tg L S h
/-- a condition on one int: 0 eq, 1 ne, 2 lt, 3 ge, 4 gt, 5 le -/
def zcond (k : Nat) (x y : Int) : Prop := match k with
  | 0 => x = y
  | 1 => x ≠ y
  | 2 => x < y
  | 3 => y ≤ x
  | 4 => y < x
  | _ => x ≤ y
def za_if (k tg nx : Nat) : zAct := fun _ L S h K _ => match S with
  | Sum.inl x :: R => (zcond k (zn x) 0 → K tg L R h) ∧ (¬ zcond k (zn x) 0 → K nx L R h)
  | _ => False
def za_icmp (k tg nx : Nat) : zAct := fun _ L S h K _ => match S with
  | Sum.inl y :: Sum.inl x :: R => (zcond k (zn x) (zn y) → K tg L R h) ∧ (¬ zcond k (zn x) (zn y) → K nx L R h)
  | _ => False
def za_ifnull (tg nx : Nat) : zAct := fun _ L S h K _ => match S with
  | Sum.inr (Sum.inl none) :: R => K tg L R h
  | Sum.inr (Sum.inl (some _)) :: R => K nx L R h
  | _ => False
def za_acmp (tg nx : Nat) : zAct := fun _ L S h K _ => match S with
  | Sum.inr (Sum.inl y) :: Sum.inr (Sum.inl x) :: R => (x = y → K tg L R h) ∧ (¬ x = y → K nx L R h)
  | _ => False
def zcat1 : zV → Bool
  | Sum.inr (Sum.inr _) => false
  | _ => true
def za_dup (nx : Nat) : zAct := fun _ L S h K _ => match S with
  | x :: R => zcat1 x = true ∧ K nx L (x :: x :: R) h
  | _ => False
def za_pop (nx : Nat) : zAct := fun _ L S h K _ => match S with
  | x :: R => zcat1 x = true ∧ K nx L R h
  | _ => False
def za_dupx1 (nx : Nat) : zAct := fun _ L S h K _ => match S with
  | x :: y :: R => zcat1 x = true ∧ zcat1 y = true ∧ K nx L (x :: y :: x :: R) h
  | _ => False
def za_dup2 (nx : Nat) : zAct := fun _ L S h K _ => match S with
  | x :: y :: R => zcat1 x = true ∧ zcat1 y = true ∧ K nx L (x :: y :: x :: y :: R) h
  | _ => False
def za_sw (f : Int → Nat) : zAct := fun _ L S h K _ => match S with
  | Sum.inl x :: R => K (f (zn x)) L R h
  | _ => False
/-- fields: of an object of class ci the field k -/
def za_getI (ci k nx : Nat) : zAct := fun _ L S h K _ => match S with
  | Sum.inr (Sum.inl (some a)) :: R => zK h a = some (Sum.inl ci) ∧ K nx L (Sum.inl (zI h a k) :: R) h
  | _ => False
def za_getL (ci k nx : Nat) : zAct := fun _ L S h K _ => match S with
  | Sum.inr (Sum.inl (some a)) :: R => zK h a = some (Sum.inl ci) ∧ K nx L (Sum.inr (Sum.inr (Sum.inl (zL h a k))) :: R) h
  | _ => False
def za_getA (ci k nx : Nat) : zAct := fun _ L S h K _ => match S with
  | Sum.inr (Sum.inl (some a)) :: R => zK h a = some (Sum.inl ci) ∧ K nx L (Sum.inr (Sum.inl (zA h a k)) :: R) h
  | _ => False
/-- b: writing is for cells from b on; lo, hi: what the field can hold -/
def za_putI (b ci k : Nat) (lo hi : Int) (nx : Nat) : zAct := fun _ L S h K _ => match S with
  | Sum.inl x :: Sum.inr (Sum.inl (some a)) :: R => zK h a = some (Sum.inl ci) ∧ b ≤ a ∧ lo ≤ zn x ∧ zn x ≤ hi ∧ K nx L R (zsI h a k x)
  | _ => False
def za_putL (b ci k nx : Nat) : zAct := fun _ L S h K _ => match S with
  | Sum.inr (Sum.inr (Sum.inl x)) :: Sum.inr (Sum.inl (some a)) :: R => zK h a = some (Sum.inl ci) ∧ b ≤ a ∧ K nx L R (zsL h a k x)
  | _ => False
def za_putA (b ci k nx : Nat) : zAct := fun _ L S h K _ => match S with
  | Sum.inr (Sum.inl x) :: Sum.inr (Sum.inl (some a)) :: R => zK h a = some (Sum.inl ci) ∧ b ≤ a ∧ K nx L R (zsA h a k x)
  | _ => False
/-- arrays -/
def za_ald (ty : FieldType) (nx : Nat) : zAct := fun _ L S h K _ => match S with
  | Sum.inl i :: Sum.inr (Sum.inl (some a)) :: R => ∃ n, zK h a = some (Sum.inr (ty, n)) ∧ 0 ≤ zn i ∧ zn i < (n : Int) ∧ K nx L (Sum.inl (zI h a (zn i).toNat) :: R) h
  | _ => False
def za_lald (nx : Nat) : zAct := fun _ L S h K _ => match S with
  | Sum.inl i :: Sum.inr (Sum.inl (some a)) :: R => ∃ n, zK h a = some (Sum.inr (FieldType.long, n)) ∧ 0 ≤ zn i ∧ zn i < (n : Int) ∧ K nx L (Sum.inr (Sum.inr (Sum.inl (zL h a (zn i).toNat))) :: R) h
  | _ => False
def za_aald (ty : FieldType) (nx : Nat) : zAct := fun _ L S h K _ => match S with
  | Sum.inl i :: Sum.inr (Sum.inl (some a)) :: R => ∃ n, zK h a = some (Sum.inr (ty, n)) ∧ 0 ≤ zn i ∧ zn i < (n : Int) ∧ K nx L (Sum.inr (Sum.inl (zA h a (zn i).toNat)) :: R) h
  | _ => False
/-- nar: what is kept of the number -/
def za_ast (b : Nat) (ty : FieldType) (nar : Int → Int) (nx : Nat) : zAct := fun _ L S h K _ => match S with
  | Sum.inl x :: Sum.inl i :: Sum.inr (Sum.inl (some a)) :: R => ∃ n, zK h a = some (Sum.inr (ty, n)) ∧ b ≤ a ∧ 0 ≤ zn i ∧ zn i < (n : Int) ∧ K nx L R (zsI h a (zn i).toNat (nar x))
  | _ => False
def za_last (b nx : Nat) : zAct := fun _ L S h K _ => match S with
  | Sum.inr (Sum.inr (Sum.inl x)) :: Sum.inl i :: Sum.inr (Sum.inl (some a)) :: R => ∃ n, zK h a = some (Sum.inr (FieldType.long, n)) ∧ b ≤ a ∧ 0 ≤ zn i ∧ zn i < (n : Int) ∧ K nx L R (zsL h a (zn i).toNat x)
  | _ => False
/-- ok: which kinds of cell may come in -/
def za_aast (b : Nat) (ty : FieldType) (ok : zKd → Bool) (nx : Nat) : zAct := fun _ L S h K _ => match S with
  | Sum.inr (Sum.inl x) :: Sum.inl i :: Sum.inr (Sum.inl (some a)) :: R => (∃ n, zK h a = some (Sum.inr (ty, n)) ∧ b ≤ a ∧ 0 ≤ zn i ∧ zn i < (n : Int)) ∧ (∀ v, x = some v → b ≤ v ∧ ∃ kd, zK h v = some kd ∧ ok kd = true) ∧ K nx L R (zsA h a (zn i).toNat x)
  | _ => False
def za_alen (nx : Nat) : zAct := fun _ L S h K _ => match S with
  | Sum.inr (Sum.inl (some a)) :: R => ∃ ty n, zK h a = some (Sum.inr (ty, n)) ∧ K nx L (Sum.inl (n : Int) :: R) h
  | _ => False
def za_new (ci n nx : Nat) : zAct := fun _ L S h K _ => K nx L (Sum.inr (Sum.inl (some (zsz h))) :: S) (znew h (Sum.inl ci) n)
def za_newa (ty : FieldType) (nx : Nat) : zAct := fun _ L S h K _ => match S with
  | Sum.inl x :: R => 0 ≤ zn x ∧ zn x ≤ 100000 ∧ K nx L (Sum.inr (Sum.inl (some (zsz h))) :: R) (znew h (Sum.inr (ty, (zn x).toNat)) (zn x).toNat)
  | _ => False
/-- a method's end, as its caller has it -/
def zaft (nx : Nat) (hs : zHs) (L R : List zV) (o : zO) (h1 : zH) (K : zKt) (E : zEt) : Prop := match o with
  | Sum.inl none => K nx L R h1
  | Sum.inl (some v) => K nx L (v :: R) h1
  | Sum.inr a => match hs (zcls h1 a) with
    | some (some pc) => K pc L [Sum.inr (Sum.inl (some a))] h1
    | some none => E (Sum.inr a) h1
    | none => False
/-- a static method -/
def za_inv (callee n nx : Nat) (hs : zHs) : zAct := fun C L S h K E => n ≤ S.length ∧ S.length ≤ 24 ∧ ∃ o h1, C callee (S.take n).reverse h o h1 ∧ zaft nx hs L (S.drop n) o h1 K E
/-- a constructor -/
def za_invI (callee n nx : Nat) (hs : zHs) : zAct := fun C L S h K E => n + 1 ≤ S.length ∧ S.length ≤ 24 ∧ match S[n]? with
  | some (Sum.inr (Sum.inl (some _))) => ∃ o h1, C callee (S.take (n + 1)).reverse h o h1 ∧ zaft nx hs L (S.drop (n + 1)) o h1 K E
  | _ => False
/-- an instance's method, by the class of the one that is called -/
def za_invV (tab : List (Nat × Nat)) (n nx : Nat) (hs : zHs) : zAct := fun C L S h K E => n + 1 ≤ S.length ∧ S.length ≤ 24 ∧ match S[n]? with
  | some (Sum.inr (Sum.inl (some a))) => match zK h a with
    | some (Sum.inl ci) => match tab.lookup ci with
      | some callee => ∃ o h1, C callee (S.take (n + 1)).reverse h o h1 ∧ zaft nx hs L (S.drop (n + 1)) o h1 K E
      | none => False
    | _ => False
  | _ => False
def za_ret : zAct := fun _ _ S h _ E => match S with
  | [] => E (Sum.inl none) h
  | _ => False
def za_reti (lo hi : Int) : zAct := fun _ _ S h _ E => match S with
  | [Sum.inl x] => lo ≤ zn x ∧ zn x ≤ hi ∧ E (Sum.inl (some (Sum.inl x))) h
  | _ => False
def za_retl : zAct := fun _ _ S h _ E => match S with
  | [Sum.inr (Sum.inr (Sum.inl x))] => E (Sum.inl (some (Sum.inr (Sum.inr (Sum.inl x))))) h
  | _ => False
def za_retr : zAct := fun _ _ S h _ E => match S with
  | [Sum.inr (Sum.inl x)] => E (Sum.inl (some (Sum.inr (Sum.inl x)))) h
  | _ => False
def za_thr (b : Nat) (hs : zHs) : zAct := fun _ L S h K E => match S with
  | Sum.inr (Sum.inl (some a)) :: _ => b ≤ a ∧ (∃ ci, zK h a = some (Sum.inl ci)) ∧ match hs (zcls h a) with
    | some (some pc) => K pc L [Sum.inr (Sum.inl (some a))] h
    | some none => E (Sum.inr a) h
    | none => False
  | _ => False
/-- a new exception of class ci is made: new, dup, ldc, its constructor -/
def za_mk (ci n nx : Nat) : zAct := fun _ L S h K _ => S.length ≤ 24 ∧ K nx L (Sum.inr (Sum.inl (some (zsz h))) :: S) (znew h (Sum.inl ci) n)
/-- iaload within a try for null: the handler hp; the exception is of class ci -/
def za_aldN (ty : FieldType) (nx hp ci n : Nat) : zAct := fun _ L S h K _ => match S with
  | Sum.inl i :: Sum.inr (Sum.inl (some a)) :: R => ∃ n, zK h a = some (Sum.inr (ty, n)) ∧ 0 ≤ zn i ∧ zn i < (n : Int) ∧ K nx L (Sum.inl (zI h a (zn i).toNat) :: R) h
  | Sum.inl _ :: Sum.inr (Sum.inl none) :: R => R.length ≤ 24 ∧ K hp L [Sum.inr (Sum.inl (some (zsz h)))] (znew h (Sum.inl ci) n)
  | _ => False
/-- Object's constructor -/
def za_obj (nx : Nat) : zAct := fun _ L S h K _ => match S with
  | Sum.inr (Sum.inl (some _)) :: R => R.length ≤ 24 ∧ K nx L R h
  | _ => False
/-- System.arraycopy of arrays of numbers -/
def za_copy (b : Nat) (ty : FieldType) (nx : Nat) : zAct := fun _ L S h K _ => match S with
  | Sum.inl n :: Sum.inl dp :: Sum.inr (Sum.inl (some d)) :: Sum.inl sp :: Sum.inr (Sum.inl (some s)) :: R =>
    ∃ ns nd, zK h s = some (Sum.inr (ty, ns)) ∧ zK h d = some (Sum.inr (ty, nd)) ∧ b ≤ d ∧ 0 ≤ zn n ∧ 0 ≤ zn dp ∧ 0 ≤ zn sp ∧ zn sp + zn n ≤ (ns : Int) ∧ zn dp + zn n ≤ (nd : Int) ∧ R.length ≤ 24 ∧
      K nx L R (zcpI h d (zn dp).toNat s (zn sp).toNat (zn n).toNat)
  | _ => False
/-- an array of n arrays of k places each -/
def zmulti (h : zH) (ty : FieldType) (n k : Nat) : zH :=
  (zsz h + 1 + n, fun b => if b = zsz h then some (Sum.inr (FieldType.array ty, n)) else if zsz h < b ∧ b < zsz h + 1 + n then some (Sum.inr (ty, k)) else zK h b,
    fun b => if zsz h ≤ b ∧ b < zsz h + 1 + n then fun _ => 0 else zI h b, fun b => if zsz h ≤ b ∧ b < zsz h + 1 + n then fun _ => 0 else zL h b,
    fun b => if b = zsz h then fun j => if j < n then some (zsz h + 1 + j) else none else if zsz h < b ∧ b < zsz h + 1 + n then fun _ => none else zA h b, zN h + (n + n * k))
theorem zsz_multi (h ty n k) : zsz (zmulti h ty n k) = zsz h + 1 + n := rfl
theorem zN_multi (h ty n k) : zN (zmulti h ty n k) = zN h + (n + n * k) := rfl
def za_multi (ty : FieldType) (nx : Nat) : zAct := fun _ L S h K _ => match S with
  | Sum.inl k :: Sum.inl n :: R => 0 ≤ zn n ∧ zn n ≤ 10000 ∧ 0 ≤ zn k ∧ zn k ≤ 10000 ∧ K nx L (Sum.inr (Sum.inl (some (zsz h))) :: R) (zmulti h ty (zn n).toNat (zn k).toNat)
  | _ => False
/-- instanceof, checkcast: by the kind of the cell -/
def za_inst (ok : zKd → Bool) (nx : Nat) : zAct := fun _ L S h K _ => match S with
  | Sum.inr (Sum.inl none) :: R => K nx L (Sum.inl 0 :: R) h
  | Sum.inr (Sum.inl (some a)) :: R => (∃ kd, zK h a = some kd ∧ ok kd = true) ∧ K nx L (Sum.inl 1 :: R) h
  | _ => False
def za_cast (ok : zKd → Bool) (nx : Nat) : zAct := fun _ L S h K _ => match S with
  | Sum.inr (Sum.inl none) :: R => K nx L (Sum.inr (Sum.inl none) :: R) h
  | Sum.inr (Sum.inl (some a)) :: R => (∃ kd, zK h a = some kd ∧ ok kd = true) ∧ K nx L (Sum.inr (Sum.inl (some a)) :: R) h
  | _ => False
/-- checkcast to an array's class -/
def za_castA (b : Nat) (ty : FieldType) (nx : Nat) : zAct := fun _ L S h K _ => match S with
  | Sum.inr (Sum.inl none) :: R => K nx L (Sum.inr (Sum.inl none) :: R) h
  | Sum.inr (Sum.inl (some a)) :: R => ∃ n, zK h a = some (Sum.inr (ty, n)) ∧ b ≤ a ∧ K nx L (Sum.inr (Sum.inl (some a)) :: R) h
  | _ => False
/-- an array's clone: a new one, then the numbers are copied -/
def za_clone (b : Nat) (ty : FieldType) (nx : Nat) : zAct := fun _ L S h K _ => match S with
  | Sum.inr (Sum.inl (some a)) :: R => ∃ n, zK h a = some (Sum.inr (ty, n)) ∧ b ≤ a ∧ R.length ≤ 24 ∧ K nx L (Sum.inr (Sum.inl (some (zsz h))) :: R) (zcpI (znew h (Sum.inr (ty, n)) n) (zsz h) 0 a 0 n)
  | _ => False
