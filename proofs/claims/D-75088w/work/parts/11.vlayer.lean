/-! THE V LAYER: a world is a function from addresses to pictures of cells (with a mark: may it be written?); V says that the machine, at pc with these locals and this stack, over any heap that holds the world, comes to its end. -/
set_option maxRecDepth 100000
abbrev Wd : Type := Nat → Option (Bool × va_E)
abbrev Gs : Type := (Nat → Prop) → State → Heap → Prop
/-- the numbers of classes, fields, array classes; the facts about statics -/
abbrev Gm : Type := va_G × (Nat → ClassId) × Gs
def wRP (Γ : Gm) (w : Wd) (H : Heap) : Prop := ∀ (a : Nat) (q : Bool × va_E), w a = some q → va_at Γ.1 vwCl (a, q.2) H
def wA (w : Wd) (sz : Nat) : Nat → Prop := fun a => (∃ e : va_E, w a = some (true, e)) ∨ sz ≤ a
def wup (w : Wd) (a : Nat) (q : Bool × va_E) : Wd := fun b => if b = a then some q else w b
theorem wup_s {w : Wd} {a : Nat} {q : Bool × va_E} : wup w a q a = some q := if_pos rfl
theorem wup_n {w : Wd} {a b : Nat} {q : Bool × va_E} (h : b ≠ a) : wup w a q b = w b := if_neg h
/-- the array classes: ints, bytes, chars, longs, booleans, doubles, objects -/
abbrev wty (Γ : Gm) : List (ClassId × FieldType) := [(Γ.2.1 0, .int), (Γ.2.1 1, .byte), (Γ.2.1 2, .char), (Γ.2.1 3, .long), (Γ.2.1 4, .boolean), (Γ.2.1 5, .double), (Γ.2.1 6, .object "java/lang/Object")]
abbrev wK (Γ : Gm) (U : State) : Prop := va_K Γ.1 vwCl (wty Γ) U
/-- what facts about statics must bear -/
def wcl (G : Gs) : Prop := (∀ (A : Nat → Prop) (s U : State) (H : Heap), s.WarmedH U.vm → G A s H → G A U H) ∧ (∀ (A : Nat → Prop) (U : State) (g : JFrame) (mk : MethodId) (a : Array Value) (H : Heap), G A U H → G A (U.calling g mk a) H) ∧ (∀ (A : Nat → Prop) (U : State) (H H1 : Heap), (∀ q : Nat, q < H.size → ¬ A q → H1[q]? = H[q]?) → G A U H → G A U H1) ∧ ∀ (A B : Nat → Prop) (U : State) (H : Heap), (∀ q, B q → A q) → G A U H → G B U H
/-- a contract's start: the world w, on a heap of size sz -/
def RU (Γ : Gm) (w : Wd) (sz : Nat) (U : State) : Prop := U.heap.size = sz ∧ wRP Γ w U.heap ∧ wK Γ U ∧ wcl Γ.2.2 ∧ Γ.2.2 (wA w sz) U U.heap
/-- a world behind a call that began with w -/
def wNew (w : Wd) (sz : Nat) (w' : Wd) : Prop := (∀ (a : Nat) (e : va_E), w' a = some (true, e) → wA w sz a) ∧ ∀ (a : Nat) (e : va_E), w' a = some (false, e) → w a = some (false, e)
def QR (Γ : Gm) (w : Wd) (sz : Nat) (post : Option Value → Wd → Prop) : Array Value → State → Outcome → State → Prop := fun _ st oc t => (∃ (v : Option Value) (w' : Wd), oc = .returned v ∧ post v w' ∧ wRP Γ w' t.heap ∧ wNew w sz w') ∧ va_F (wA w sz) st t
/-- THE CONTRACT: called with av in the world w, y returns, and post says of the answer and the new world -/
def M0 (Γ : Gm) (l : Launch) (y : MethodName) (ws : List Cond) (rm : Room) (mc ms : Nat) (av : List Value) (w : Wd) (post : Option Value → Wd → Prop) : Prop := ∀ sz : Nat, Met l y ws rm (va_Pc av (RU Γ w sz)) (QR Γ w sz post) mc ms (wA w sz)
/-- the fixed things of a method's run -/
abbrev Cx : Type := Program × Launch × Env × Room × State × MethodId × Array Value × List Frame × Method × Code × (State → Prop) × (Nat → Prop) × (Nat → va_E → Prop) × Gm
abbrev xp (X : Cx) : Program := X.1
abbrev xl (X : Cx) : Launch := X.2.1
abbrev xe (X : Cx) : Env := X.2.2.1
abbrev xR (X : Cx) : Room := X.2.2.2.1
abbrev xs (X : Cx) : State := X.2.2.2.2.1
abbrev xm (X : Cx) : MethodId := X.2.2.2.2.2.1
abbrev xa (X : Cx) : Array Value := X.2.2.2.2.2.2.1
abbrev xb (X : Cx) : List Frame := X.2.2.2.2.2.2.2.1
abbrev xh (X : Cx) : Method := X.2.2.2.2.2.2.2.2.1
abbrev xc (X : Cx) : Code := X.2.2.2.2.2.2.2.2.2.1
abbrev xQ (X : Cx) : State → Prop := X.2.2.2.2.2.2.2.2.2.2.1
abbrev xA (X : Cx) : Nat → Prop := X.2.2.2.2.2.2.2.2.2.2.2.1
abbrev xF (X : Cx) : Nat → va_E → Prop := X.2.2.2.2.2.2.2.2.2.2.2.2.1
abbrev xG (X : Cx) : Gm := X.2.2.2.2.2.2.2.2.2.2.2.2.2
/-- the locals: of this length; what is listed is held -/
def LH (ls : Array Slot) (lv : List (Option Value)) : Prop := ls.size = lv.length ∧ lv_wf ls ∧ ∀ (i : Nat) (v : Value), lv[i]? = some (some v) → ls[i]? = some (.val v)
def V (X : Cx) (w : Wd) (k n pc : Nat) (lv : List (Option Value)) (st : List Value) : Prop :=
  ∀ (H : Heap) (locs : List Loc) (ls : Array Slot), wRP (xG X) w H → va_S (xA X) (xs X).heap H locs → ((∀ (a : Nat) (e : va_E), w a = some (true, e) → xA X a) ∧ ∀ (a : Nat) (e : va_E), w a = some (false, e) → xF X a e) → LH ls lv →
    W (xp X) (xl X) (xe X) (xR X) (xs X) (xm X) (xa X) (xb X) (xh X) (xc X) H locs k n (xQ X) (F0 (xm X) pc ls st)
/-- what holds all through a method's run -/
def OK (X : Cx) (cc : ByteArray) (own : String) (nL : Nat) (RM : Room) : Prop := CallFix (xp X) (xm X) (xc X) cc nL (xs X) (xa X) lw_all own ∧ wK (xG X) (xs X) ∧ (xh X).locks = false ∧ (∀ q : Nat, (xs X).heap.size ≤ q → xA X q) ∧ wcl (xG X).2.2 ∧ (xG X).2.2 (xA X) (xs X) (xs X).heap ∧ (∀ (a : Nat) (e : va_E), xF X a e → ¬ xA X a ∧ a < (xs X).heap.size) ∧ xR X = RM

section VROWS
variable {X : Cx} {w : Wd} {k n pc nL : Nat} {lv lv' : List (Option Value)} {st : List Value} {cc : ByteArray} {own : String} {RM : Room}
theorem V.wide {k' n' : Nat} (h1 : k ≤ k') (h2 : n ≤ n') (kk : V X w k' n' pc lv st) : V X w k n pc lv st := fun H locs ls a b c d => W.widen h1 h2 (kk H locs ls a b c d)
theorem V.at {w2 : Wd} {lv2 : List (Option Value)} {st2 : List Value} (e1 : w = w2) (e2 : lv = lv2) (e3 : st = st2) (kk : V X w2 k n pc lv2 st2) : V X w k n pc lv st := by
  subst e1; subst e2; subst e3; exact kk
theorem V.no (j : Nat) (hl : lv.set j none = lv') (kk : V X w k n pc lv' st) : V X w k n pc lv st := by
  subst hl
  intro H locs ls a b c d
  refine kk H locs ls a b c ⟨by rw [List.length_set]; exact d.1, d.2.1, fun i v hi => d.2.2 i v ?_⟩
  by_cases e : j = i
  · subst e
    rw [List.getElem?_set] at hi
    split at hi
    · split at hi
      · cases hi
      · cases hi
    · rename_i q; exact absurd rfl q
  · rw [List.getElem?_set_ne e] at hi
    exact hi
theorem v_join (J : Nat) (u : Value) (h : V X w k n J lv (u :: st)) (kk : V X w k n J lv (u :: st) → V X w k n pc lv st) : V X w k n pc lv st := kk h
theorem V.lt {pc2 : Nat} (e : pc = pc2) (kk : V X w k n pc2 lv st) : V X w k n pc lv st := by subst e; exact kk
theorem v_iconst {j : Int} {v : Int32} (hX : OK X cc own nL RM) (hd : decode cc pc = .ok (.iconst j, 1)) (hv : Int32.ofInt j = v) (kk : V X w k n (pc + 1) lv (.int v :: st)) : V X w k n pc lv (st) :=
  fun H locs ls a b c d => lv_iconst hX.1.1 hX.1.2.1 hd hv (kk H locs ls a b c d)
theorem v_bipush {j : Int} {v : Int32} (hX : OK X cc own nL RM) (hd : decode cc pc = .ok (.bipush j, 2)) (hv : (Int8.ofInt j).toInt32 = v) (kk : V X w k n (pc + 2) lv (.int v :: st)) : V X w k n pc lv (st) :=
  fun H locs ls a b c d => lv_bipush hX.1.1 hX.1.2.1 hd hv (kk H locs ls a b c d)
theorem v_sipush {j : Int} {v : Int32} (hX : OK X cc own nL RM) (hd : decode cc pc = .ok (.sipush j, 3)) (hv : (Int16.ofInt j).toInt32 = v) (kk : V X w k n (pc + 3) lv (.int v :: st)) : V X w k n pc lv (st) :=
  fun H locs ls a b c d => lv_sipush hX.1.1 hX.1.2.1 hd hv (kk H locs ls a b c d)
theorem v_lconst {j : Fin 2} {v : Int64} (hX : OK X cc own nL RM) (hd : decode cc pc = .ok (.lconst j, 1)) (hv : Int64.ofNat (j : Nat) = v) (kk : V X w k n (pc + 1) lv (.long v :: st)) : V X w k n pc lv (st) :=
  fun H locs ls a b c d => lv_lconst hX.1.1 hX.1.2.1 hd hv (kk H locs ls a b c d)
theorem v_null  (hX : OK X cc own nL RM) (hd : decode cc pc = .ok (.aconst_null, 1))  (kk : V X w k n (pc + 1) lv (.null :: st)) : V X w k n pc lv (st) :=
  fun H locs ls a b c d => lv_null hX.1.1 hX.1.2.1 hd  (kk H locs ls a b c d)
theorem v_iadd {x y : Int32} (hX : OK X cc own nL RM) (hd : decode cc pc = .ok (.iadd, 1))  (kk : V X w k n (pc + 1) lv (.int (x + y) :: st)) : V X w k n pc lv (.int y :: .int x :: st) :=
  fun H locs ls a b c d => lv_iadd hX.1.1 hX.1.2.1 hd  (kk H locs ls a b c d)
theorem v_isub {x y : Int32} (hX : OK X cc own nL RM) (hd : decode cc pc = .ok (.isub, 1))  (kk : V X w k n (pc + 1) lv (.int (x - y) :: st)) : V X w k n pc lv (.int y :: .int x :: st) :=
  fun H locs ls a b c d => lv_isub hX.1.1 hX.1.2.1 hd  (kk H locs ls a b c d)
theorem v_imul {x y : Int32} (hX : OK X cc own nL RM) (hd : decode cc pc = .ok (.imul, 1))  (kk : V X w k n (pc + 1) lv (.int (x * y) :: st)) : V X w k n pc lv (.int y :: .int x :: st) :=
  fun H locs ls a b c d => lv_imul hX.1.1 hX.1.2.1 hd  (kk H locs ls a b c d)
theorem v_iand {x y : Int32} (hX : OK X cc own nL RM) (hd : decode cc pc = .ok (.iand, 1))  (kk : V X w k n (pc + 1) lv (.int (x &&& y) :: st)) : V X w k n pc lv (.int y :: .int x :: st) :=
  fun H locs ls a b c d => lv_iand hX.1.1 hX.1.2.1 hd  (kk H locs ls a b c d)
theorem v_ior {x y : Int32} (hX : OK X cc own nL RM) (hd : decode cc pc = .ok (.ior, 1))  (kk : V X w k n (pc + 1) lv (.int (x ||| y) :: st)) : V X w k n pc lv (.int y :: .int x :: st) :=
  fun H locs ls a b c d => lv_ior hX.1.1 hX.1.2.1 hd  (kk H locs ls a b c d)
theorem v_ixor {x y : Int32} (hX : OK X cc own nL RM) (hd : decode cc pc = .ok (.ixor, 1))  (kk : V X w k n (pc + 1) lv (.int (x ^^^ y) :: st)) : V X w k n pc lv (.int y :: .int x :: st) :=
  fun H locs ls a b c d => lv_ixor hX.1.1 hX.1.2.1 hd  (kk H locs ls a b c d)
theorem v_ladd {x y : Int64} (hX : OK X cc own nL RM) (hd : decode cc pc = .ok (.ladd, 1))  (kk : V X w k n (pc + 1) lv (.long (x + y) :: st)) : V X w k n pc lv (.long y :: .long x :: st) :=
  fun H locs ls a b c d => lv_ladd hX.1.1 hX.1.2.1 hd  (kk H locs ls a b c d)
theorem v_lsub {x y : Int64} (hX : OK X cc own nL RM) (hd : decode cc pc = .ok (.lsub, 1))  (kk : V X w k n (pc + 1) lv (.long (x - y) :: st)) : V X w k n pc lv (.long y :: .long x :: st) :=
  fun H locs ls a b c d => lv_lsub hX.1.1 hX.1.2.1 hd  (kk H locs ls a b c d)
theorem v_lmul {x y : Int64} (hX : OK X cc own nL RM) (hd : decode cc pc = .ok (.lmul, 1))  (kk : V X w k n (pc + 1) lv (.long (x * y) :: st)) : V X w k n pc lv (.long y :: .long x :: st) :=
  fun H locs ls a b c d => lv_lmul hX.1.1 hX.1.2.1 hd  (kk H locs ls a b c d)
theorem v_land {x y : Int64} (hX : OK X cc own nL RM) (hd : decode cc pc = .ok (.land, 1))  (kk : V X w k n (pc + 1) lv (.long (x &&& y) :: st)) : V X w k n pc lv (.long y :: .long x :: st) :=
  fun H locs ls a b c d => lv_land hX.1.1 hX.1.2.1 hd  (kk H locs ls a b c d)
theorem v_idiv {x y : Int32} (hX : OK X cc own nL RM) (hd : decode cc pc = .ok (.idiv, 1)) (hne : ¬ y = 0) (kk : V X w k n (pc + 1) lv (.int (x / y) :: st)) : V X w k n pc lv (.int y :: .int x :: st) :=
  fun H locs ls a b c d => lv_idiv hX.1.1 hX.1.2.1 hd hne (kk H locs ls a b c d)
theorem v_irem {x y : Int32} (hX : OK X cc own nL RM) (hd : decode cc pc = .ok (.irem, 1)) (hne : ¬ y = 0) (kk : V X w k n (pc + 1) lv (.int (x - x / y * y) :: st)) : V X w k n pc lv (.int y :: .int x :: st) :=
  fun H locs ls a b c d => lv_irem hX.1.1 hX.1.2.1 hd hne (kk H locs ls a b c d)
theorem v_ineg {x : Int32} (hX : OK X cc own nL RM) (hd : decode cc pc = .ok (.ineg, 1))  (kk : V X w k n (pc + 1) lv (.int (-x) :: st)) : V X w k n pc lv (.int x :: st) :=
  fun H locs ls a b c d => lv_ineg hX.1.1 hX.1.2.1 hd  (kk H locs ls a b c d)
theorem v_ishl {x y : Int32} (hX : OK X cc own nL RM) (hd : decode cc pc = .ok (.ishl, 1))  (kk : V X w k n (pc + 1) lv (.int (x <<< (y &&& 31)) :: st)) : V X w k n pc lv (.int y :: .int x :: st) :=
  fun H locs ls a b c d => lv_ishl hX.1.1 hX.1.2.1 hd  (kk H locs ls a b c d)
theorem v_ishr {x y : Int32} (hX : OK X cc own nL RM) (hd : decode cc pc = .ok (.ishr, 1))  (kk : V X w k n (pc + 1) lv (.int (x >>> (y &&& 31)) :: st)) : V X w k n pc lv (.int y :: .int x :: st) :=
  fun H locs ls a b c d => lv_ishr hX.1.1 hX.1.2.1 hd  (kk H locs ls a b c d)
theorem v_iushr {x y : Int32} (hX : OK X cc own nL RM) (hd : decode cc pc = .ok (.iushr, 1)) (kk : V X w k n (pc + 1) lv (.int (x.toUInt32 >>> (y.toUInt32 &&& Int32.toUInt32 31)).toInt32 :: st)) : V X w k n pc lv (.int y :: .int x :: st) :=
  fun H locs ls a b c d => lv_iushr hX.1.1 hX.1.2.1 hd rfl (kk H locs ls a b c d)
theorem v_lshr {x : Int64} {y : Int32} (hX : OK X cc own nL RM) (hd : decode cc pc = .ok (.lshr, 1)) (kk : V X w k n (pc + 1) lv (.long (x >>> (y.toInt64 &&& 63)) :: st)) : V X w k n pc lv (.int y :: .long x :: st) :=
  fun H locs ls a b c d => lv_lshr hX.1.1 hX.1.2.1 hd rfl (kk H locs ls a b c d)
theorem v_i2l {x : Int32} (hX : OK X cc own nL RM) (hd : decode cc pc = .ok (.i2l, 1)) (kk : V X w k n (pc + 1) lv (.long x.toInt64 :: st)) : V X w k n pc lv (.int x :: st) :=
  fun H locs ls a b c d => lv_i2l hX.1.1 hX.1.2.1 hd rfl (kk H locs ls a b c d)
theorem v_l2i {x : Int64} (hX : OK X cc own nL RM) (hd : decode cc pc = .ok (.l2i, 1)) (kk : V X w k n (pc + 1) lv (.int x.toInt32 :: st)) : V X w k n pc lv (.long x :: st) :=
  fun H locs ls a b c d => lv_l2i hX.1.1 hX.1.2.1 hd rfl (kk H locs ls a b c d)
theorem v_i2b {x : Int32} (hX : OK X cc own nL RM) (hd : decode cc pc = .ok (.i2b, 1)) (kk : V X w k n (pc + 1) lv (.int x.toInt8.toInt32 :: st)) : V X w k n pc lv (.int x :: st) :=
  fun H locs ls a b c d => lv_i2b hX.1.1 hX.1.2.1 hd rfl (kk H locs ls a b c d)
theorem v_i2c {x : Int32} (hX : OK X cc own nL RM) (hd : decode cc pc = .ok (.i2c, 1)) (kk : V X w k n (pc + 1) lv (.int (x.toUInt32 % 65536).toInt32 :: st)) : V X w k n pc lv (.int x :: st) :=
  fun H locs ls a b c d => lv_i2c hX.1.1 hX.1.2.1 hd rfl (kk H locs ls a b c d)
theorem v_i2d {x : Int32} (hX : OK X cc own nL RM) (hd : decode cc pc = .ok (.i2d, 1))  (kk : V X w k n (pc + 1) lv (.double (FP.i2d x) :: st)) : V X w k n pc lv (.int x :: st) :=
  fun H locs ls a b c d => lv_i2d hX.1.1 hX.1.2.1 hd  (kk H locs ls a b c d)
theorem v_ddiv {x y : UInt64} (hX : OK X cc own nL RM) (hd : decode cc pc = .ok (.ddiv, 1)) (hne : vf_n64 (FP.ddiv x y)) (kk : V X w k n (pc + 1) lv (.double (FP.ddiv x y) :: st)) : V X w k n pc lv (.double y :: .double x :: st) :=
  fun H locs ls a b c d => lv_ddiv hX.1.1 hX.1.2.1 hd hne (kk H locs ls a b c d)
theorem v_dcmp {x y : UInt64} {op : CmpOp} (hX : OK X cc own nL RM) (hd : decode cc pc = .ok (.dcmp op, 1))  (kk : V X w k n (pc + 1) lv (.int (Op.cmpValue (FP.dcmp x y) op) :: st)) : V X w k n pc lv (.double y :: .double x :: st) :=
  fun H locs ls a b c d => lv_dcmp hX.1.1 hX.1.2.1 hd  (kk H locs ls a b c d)
theorem v_lcmp {x y : Int64} (hX : OK X cc own nL RM) (hd : decode cc pc = .ok (.lcmp, 1))  (kk : V X w k n (pc + 1) lv (.int (lg_cmp x y) :: st)) : V X w k n pc lv (.long y :: .long x :: st) :=
  fun H locs ls a b c d => W.lcmp hX.1.1 hX.1.2.1 hd  (kk H locs ls a b c d)
theorem v_dup {va : Value} (hX : OK X cc own nL RM) (hd : decode cc pc = .ok (.dup, 1)) (hva : va.category = 1) (kk : V X w k n (pc + 1) lv (va :: va :: st)) : V X w k n pc lv (va :: st) :=
  fun H locs ls a b c d => lv_dup hX.1.1 hX.1.2.1 hd hva (kk H locs ls a b c d)
theorem v_pop {va : Value} (hX : OK X cc own nL RM) (hd : decode cc pc = .ok (.pop, 1)) (hva : va.category = 1) (kk : V X w k n (pc + 1) lv (st)) : V X w k n pc lv (va :: st) :=
  fun H locs ls a b c d => lv_pop hX.1.1 hX.1.2.1 hd hva (kk H locs ls a b c d)
theorem v_dup_x1 {va vb : Value} (hX : OK X cc own nL RM) (hd : decode cc pc = .ok (.dup_x1, 1)) (hva : va.category = 1) (hvb : vb.category = 1) (kk : V X w k n (pc + 1) lv (va :: vb :: va :: st)) : V X w k n pc lv (va :: vb :: st) :=
  fun H locs ls a b c d => lv_dup_x1 hX.1.1 hX.1.2.1 hd hva hvb (kk H locs ls a b c d)
theorem v_dup2 {va vb : Value} (hX : OK X cc own nL RM) (hd : decode cc pc = .ok (.dup2, 1)) (hva : va.category = 1) (hvb : vb.category = 1) (kk : V X w k n (pc + 1) lv (va :: vb :: va :: vb :: st)) : V X w k n pc lv (va :: vb :: st) :=
  fun H locs ls a b c d => lv_dup2_11 hX.1.1 hX.1.2.1 hd hva hvb (kk H locs ls a b c d)
theorem v_ldc {index : Nat} {v : Int32} (hX : OK X cc own nL RM) (hd : decode cc pc = .ok (.ldc index, 2)) (hc : Cond.constant own index v ∈ lw_all) (kk : V X w k n (pc + 2) lv (.int v :: st)) : V X w k n pc lv st :=
  fun H locs ls a b c d => lv_ldc hX.1.1 hX.1.2.1 hX.1.2.2.2.1 (hX.1.2.2.2.2 _ hc) hd (kk H locs ls a b c d)
theorem v_ldcw {index : Nat} {v : Int32} (hX : OK X cc own nL RM) (hd : decode cc pc = .ok (.ldc_w index, 3)) (hc : Cond.constant own index v ∈ lw_all) (kk : V X w k n (pc + 3) lv (.int v :: st)) : V X w k n pc lv st :=
  fun H locs ls a b c d => lv_ldcw hX.1.1 hX.1.2.1 hX.1.2.2.2.1 (hX.1.2.2.2.2 _ hc) hd (kk H locs ls a b c d)
theorem v_ldc2 {index : Nat} {v : Int64} (hX : OK X cc own nL RM) (hd : decode cc pc = .ok (.ldc2_w index, 3)) (hc : Cond.constantLong own index v ∈ lw_all) (kk : V X w k n (pc + 3) lv (.long v :: st)) : V X w k n pc lv st :=
  fun H locs ls a b c d => lv_ldc2 hX.1.1 hX.1.2.1 hX.1.2.2.2.1 (hX.1.2.2.2.2 _ hc) hd (kk H locs ls a b c d)
theorem v_iload_n {j : Fin 4} {x : Int32} (hX : OK X cc own nL RM) (hd : decode cc pc = .ok (.iload_n j, 1)) (hl : lv[(j : Nat)]? = some (some (.int x))) (kk : V X w k n (pc + 1) lv (.int x :: st)) : V X w k n pc lv st :=
  fun H locs ls a b c d => lv_iload_n hX.1.1 hX.1.2.1 hd rfl (d.2.2 _ _ hl) (kk H locs ls a b c d)
theorem v_iload {j : Nat} {x : Int32} (hX : OK X cc own nL RM) (hd : decode cc pc = .ok (.iload j, 2)) (hl : lv[j]? = some (some (.int x))) (kk : V X w k n (pc + 2) lv (.int x :: st)) : V X w k n pc lv st :=
  fun H locs ls a b c d => lv_iload hX.1.1 hX.1.2.1 hd (d.2.2 _ _ hl) (kk H locs ls a b c d)
theorem v_lload_n {j : Fin 4} {x : Int64} (hX : OK X cc own nL RM) (hd : decode cc pc = .ok (.lload_n j, 1)) (hl : lv[(j : Nat)]? = some (some (.long x))) (kk : V X w k n (pc + 1) lv (.long x :: st)) : V X w k n pc lv st :=
  fun H locs ls a b c d => lv_lload_n hX.1.1 hX.1.2.1 hd rfl (d.2.2 _ _ hl) (kk H locs ls a b c d)
theorem v_lload {j : Nat} {x : Int64} (hX : OK X cc own nL RM) (hd : decode cc pc = .ok (.lload j, 2)) (hl : lv[j]? = some (some (.long x))) (kk : V X w k n (pc + 2) lv (.long x :: st)) : V X w k n pc lv st :=
  fun H locs ls a b c d => lv_lload hX.1.1 hX.1.2.1 hd (d.2.2 _ _ hl) (kk H locs ls a b c d)
theorem v_dload_n {j : Fin 4} {x : UInt64} (hX : OK X cc own nL RM) (hd : decode cc pc = .ok (.dload_n j, 1)) (hl : lv[(j : Nat)]? = some (some (.double x))) (kk : V X w k n (pc + 1) lv (.double x :: st)) : V X w k n pc lv st :=
  fun H locs ls a b c d => lv_dload_n hX.1.1 hX.1.2.1 hd rfl (d.2.2 _ _ hl) (kk H locs ls a b c d)
theorem v_dload {j : Nat} {x : UInt64} (hX : OK X cc own nL RM) (hd : decode cc pc = .ok (.dload j, 2)) (hl : lv[j]? = some (some (.double x))) (kk : V X w k n (pc + 2) lv (.double x :: st)) : V X w k n pc lv st :=
  fun H locs ls a b c d => lv_dload hX.1.1 hX.1.2.1 hd (d.2.2 _ _ hl) (kk H locs ls a b c d)
theorem v_aload_n {j : Fin 4} {x : Nat} (hX : OK X cc own nL RM) (hd : decode cc pc = .ok (.aload_n j, 1)) (hl : lv[(j : Nat)]? = some (some (.ref x))) (kk : V X w k n (pc + 1) lv (.ref x :: st)) : V X w k n pc lv st :=
  fun H locs ls a b c d => lv_aload_n hX.1.1 hX.1.2.1 hd rfl (d.2.2 _ _ hl) (kk H locs ls a b c d)
theorem v_aload {j : Nat} {x : Nat} (hX : OK X cc own nL RM) (hd : decode cc pc = .ok (.aload j, 2)) (hl : lv[j]? = some (some (.ref x))) (kk : V X w k n (pc + 2) lv (.ref x :: st)) : V X w k n pc lv st :=
  fun H locs ls a b c d => lv_aload hX.1.1 hX.1.2.1 hd (d.2.2 _ _ hl) (kk H locs ls a b c d)
theorem v_aload_nN {j : Fin 4} (hX : OK X cc own nL RM) (hd : decode cc pc = .ok (.aload_n j, 1)) (hl : lv[(j : Nat)]? = some (some .null)) (kk : V X w k n (pc + 1) lv (.null :: st)) : V X w k n pc lv st :=
  fun H locs ls a b c d => lv_aload_nN hX.1.1 hX.1.2.1 hd rfl (d.2.2 _ _ hl) (kk H locs ls a b c d)
/-- the held locals as pairs -/
def lpr (lv : List (Option Value)) : List (Nat × Value) := (List.range lv.length).filterMap (fun i => match lv[i]? with | some (some v) => some (i, v) | _ => none)
theorem lpr_mem {q : Nat × Value} : q ∈ lpr lv ↔ lv[q.1]? = some (some q.2) := by
  unfold lpr
  constructor
  · intro h
    obtain ⟨i, hi, he⟩ := List.mem_filterMap.mp h
    split at he
    · rename_i v hv
      cases he
      exact hv
    · cases he
  · intro h
    refine List.mem_filterMap.mpr ⟨q.1, List.mem_range.mpr ?_, ?_⟩
    · exact (List.getElem?_eq_some_iff.mp h).1
    · rw [h]
theorem LH.has {ls : Array Slot} (h : LH ls lv) : lv_has ls lv.length (lpr lv) := ⟨h.1, h.2.1, fun q hq => h.2.2 _ _ (lpr_mem.mp hq)⟩
/-- the local ahead of place i holds no long -/
def lok (lv : List (Option Value)) (i : Nat) : Bool := match i with
  | 0 => true
  | j + 1 => match lv[j]? with
    | some (some u) => u.category == 1
    | _ => true
theorem lok_use {i : Nat} (h : lok lv i = true) {j : Nat} {u : Value} (hj : j + 1 = i) (hu : lv[j]? = some (some u)) : u.category = 1 := by
  subst hj
  have h : (match lv[j]? with | some (some u) => u.category == 1 | _ => true) = true := h
  rw [hu] at h
  simpa using h
theorem LH.st1 {ls : Array Slot} {i : Nat} {v : Value} (hl : lok lv i = true) (h : lv_has ls lv.length ((i, v) :: (lpr lv).filter (fun q => !(q.1 == i) && !(q.1 + 1 == i && q.2.category == 2)))) : LH ls (lv.set i (some v)) := by
  refine ⟨by rw [List.length_set]; exact h.1, h.2.1, fun j u hj => ?_⟩
  by_cases e : i = j
  · subst e
    rw [List.getElem?_set] at hj
    split at hj
    · split at hj
      · cases hj
        exact h.2.2 (i, v) (List.mem_cons_self)
      · cases hj
    · rename_i q; exact absurd rfl q
  · rw [List.getElem?_set_ne e] at hj
    refine h.2.2 (j, u) (List.mem_cons_of_mem _ (List.mem_filter.mpr ⟨lpr_mem.mpr hj, ?_⟩))
    have e' : ¬ j = i := fun q => e q.symm
    by_cases f : j + 1 = i
    · have := lok_use hl f hj
      simp [e', this]
    · simp [e', f]
theorem LH.st2 {ls : Array Slot} {i : Nat} {v : Value} (hl : lok lv i = true) (h : lv_has ls lv.length ((i, v) :: (lpr lv).filter (fun q => !(q.1 == i) && (!(q.1 == i + 1) && !(q.1 + 1 == i && q.2.category == 2))))) : LH ls ((lv.set i (some v)).set (i + 1) none) := by
  refine ⟨by rw [List.length_set, List.length_set]; exact h.1, h.2.1, fun j u hj => ?_⟩
  by_cases e1 : i + 1 = j
  · subst e1
    rw [List.getElem?_set] at hj
    split at hj
    · split at hj
      · cases hj
      · cases hj
    · rename_i q; exact absurd rfl q
  · rw [List.getElem?_set_ne e1] at hj
    by_cases e : i = j
    · subst e
      rw [List.getElem?_set] at hj
      split at hj
      · split at hj
        · cases hj
          exact h.2.2 (i, v) (List.mem_cons_self)
        · cases hj
      · rename_i q; exact absurd rfl q
    · rw [List.getElem?_set_ne e] at hj
      refine h.2.2 (j, u) (List.mem_cons_of_mem _ (List.mem_filter.mpr ⟨lpr_mem.mpr hj, ?_⟩))
      have e' : ¬ j = i := fun q => e q.symm
      have e1' : ¬ j = i + 1 := fun q => e1 q.symm
      by_cases f : j + 1 = i
      · have := lok_use hl f hj
        simp [e', e1', this]
      · simp [e', e1', f]
theorem v_istore_n {j : Fin 4} {x : Int32} (hX : OK X cc own nL RM) (hd : decode cc pc = .ok (.istore_n j, 1)) (hn : (j : Nat) < lv.length) (hk : lok lv j = true) (hl : lv.set j (some (.int x)) = lv') (kk : V X w k n (pc + 1) lv' st) : V X w k n pc lv (.int x :: st) :=
  fun H locs ls a b c d => lv_istore_n hX.1.1 hX.1.2.1 hd rfl d.has hn rfl (fun ls2 h2 => kk H locs ls2 a b c (hl ▸ LH.st1 hk h2))
theorem v_istore {j : Nat} {x : Int32} (hX : OK X cc own nL RM) (hd : decode cc pc = .ok (.istore j, 2)) (hn : j < lv.length) (hk : lok lv j = true) (hl : lv.set j (some (.int x)) = lv') (kk : V X w k n (pc + 2) lv' st) : V X w k n pc lv (.int x :: st) :=
  fun H locs ls a b c d => lv_istore hX.1.1 hX.1.2.1 hd d.has hn rfl (fun ls2 h2 => kk H locs ls2 a b c (hl ▸ LH.st1 hk h2))
theorem v_astore_n {j : Fin 4} {x : Nat} (hX : OK X cc own nL RM) (hd : decode cc pc = .ok (.astore_n j, 1)) (hn : (j : Nat) < lv.length) (hk : lok lv j = true) (hl : lv.set j (some (.ref x)) = lv') (kk : V X w k n (pc + 1) lv' st) : V X w k n pc lv (.ref x :: st) :=
  fun H locs ls a b c d => lv_astore_n hX.1.1 hX.1.2.1 hd rfl d.has hn rfl (fun ls2 h2 => kk H locs ls2 a b c (hl ▸ LH.st1 hk h2))
theorem v_astore {j : Nat} {x : Nat} (hX : OK X cc own nL RM) (hd : decode cc pc = .ok (.astore j, 2)) (hn : j < lv.length) (hk : lok lv j = true) (hl : lv.set j (some (.ref x)) = lv') (kk : V X w k n (pc + 2) lv' st) : V X w k n pc lv (.ref x :: st) :=
  fun H locs ls a b c d => lv_astore hX.1.1 hX.1.2.1 hd d.has hn rfl (fun ls2 h2 => kk H locs ls2 a b c (hl ▸ LH.st1 hk h2))
theorem v_astore_nN {j : Fin 4} (hX : OK X cc own nL RM) (hd : decode cc pc = .ok (.astore_n j, 1)) (hn : (j : Nat) < lv.length) (hk : lok lv j = true) (hl : lv.set j (some .null) = lv') (kk : V X w k n (pc + 1) lv' st) : V X w k n pc lv (.null :: st) :=
  fun H locs ls a b c d => lv_astore_nN hX.1.1 hX.1.2.1 hd rfl d.has hn rfl (fun ls2 h2 => kk H locs ls2 a b c (hl ▸ LH.st1 hk h2))
theorem v_lstore_n {j : Fin 4} {x : Int64} (hX : OK X cc own nL RM) (hd : decode cc pc = .ok (.lstore_n j, 1)) (hn : (j : Nat) + 1 < lv.length) (hk : lok lv j = true) (hl : (lv.set j (some (.long x))).set (j + 1) none = lv') (kk : V X w k n (pc + 1) lv' st) : V X w k n pc lv (.long x :: st) :=
  fun H locs ls a b c d => lv_lstore_n hX.1.1 hX.1.2.1 hd rfl d.has hn rfl (fun ls2 h2 => kk H locs ls2 a b c (hl ▸ LH.st2 hk h2))
theorem v_lstore {j : Nat} {x : Int64} (hX : OK X cc own nL RM) (hd : decode cc pc = .ok (.lstore j, 2)) (hn : j + 1 < lv.length) (hk : lok lv j = true) (hl : (lv.set j (some (.long x))).set (j + 1) none = lv') (kk : V X w k n (pc + 2) lv' st) : V X w k n pc lv (.long x :: st) :=
  fun H locs ls a b c d => lv_lstore hX.1.1 hX.1.2.1 hd d.has hn rfl (fun ls2 h2 => kk H locs ls2 a b c (hl ▸ LH.st2 hk h2))
theorem v_dstore_n {j : Fin 4} {x : UInt64} (hX : OK X cc own nL RM) (hd : decode cc pc = .ok (.dstore_n j, 1)) (hn : (j : Nat) + 1 < lv.length) (hk : lok lv j = true) (hl : (lv.set j (some (.double x))).set (j + 1) none = lv') (kk : V X w k n (pc + 1) lv' st) : V X w k n pc lv (.double x :: st) :=
  fun H locs ls a b c d => lv_dstore_n hX.1.1 hX.1.2.1 hd rfl d.has hn rfl (fun ls2 h2 => kk H locs ls2 a b c (hl ▸ LH.st2 hk h2))
theorem v_dstore {j : Nat} {x : UInt64} (hX : OK X cc own nL RM) (hd : decode cc pc = .ok (.dstore j, 2)) (hn : j + 1 < lv.length) (hk : lok lv j = true) (hl : (lv.set j (some (.double x))).set (j + 1) none = lv') (kk : V X w k n (pc + 2) lv' st) : V X w k n pc lv (.double x :: st) :=
  fun H locs ls a b c d => lv_dstore hX.1.1 hX.1.2.1 hd d.has hn rfl (fun ls2 h2 => kk H locs ls2 a b c (hl ▸ LH.st2 hk h2))
theorem v_iinc {j : Nat} {x : Int32} {m : Int} {v : Int32} (hX : OK X cc own nL RM) (hd : decode cc pc = .ok (.iinc j m, 3)) (hx : lv[j]? = some (some (.int x))) (hv : Int32.ofInt m = v) (hk : lok lv j = true) (hl : lv.set j (some (.int (x + v))) = lv') (kk : V X w k n (pc + 3) lv' st) : V X w k n pc lv st := by
  intro H locs ls a b c d
  have hm : (j, Value.int x) ∈ lpr lv := lpr_mem.mpr hx
  obtain ⟨i, hi⟩ := List.getElem?_of_mem hm
  exact lv_iinc (k := i) hX.1.1 hX.1.2.1 hd d.has hi (by rw [hv]) (List.getElem?_eq_some_iff.mp hx).1 rfl (fun ls2 h2 => kk H locs ls2 a b c (hl ▸ LH.st1 hk h2))
theorem v_if_eq {x : Int32} {off : Int} {tgt : Nat} (hX : OK X cc own nL RM) (hd : decode cc pc = .ok (.ifCond .eq off, 3)) (ht : (pc : Int) + off = (tgt : Int)) (kt : x = 0 → V X w k n tgt lv st) (kf : ¬ x = 0 → V X w k n (pc + 3) lv st) : V X w k n pc lv (.int x :: st) :=
  fun H locs ls a b c d => lv_if_eq hX.1.1 hX.1.2.1 hd ht (fun q => kt q H locs ls a b c d) (fun q => kf q H locs ls a b c d)
theorem v_if_eq_t {x : Int32} {off : Int} {tgt : Nat} (hX : OK X cc own nL RM) (hd : decode cc pc = .ok (.ifCond .eq off, 3)) (ht : (pc : Int) + off = (tgt : Int)) (hc : x = 0) (kt : V X w k n tgt lv st) : V X w k n pc lv (.int x :: st) :=
  v_if_eq hX hd ht (fun _ => kt) (fun q => absurd hc q)
theorem v_if_eq_f {x : Int32} {off : Int} (hX : OK X cc own nL RM) (hd : decode cc pc = .ok (.ifCond .eq off, 3)) {tgt : Nat} (ht : (pc : Int) + off = (tgt : Int)) (hc : ¬ x = 0) (kf : V X w k n (pc + 3) lv st) : V X w k n pc lv (.int x :: st) :=
  v_if_eq hX hd ht (fun q => absurd q hc) (fun _ => kf)
theorem v_icmp_eq {x y : Int32} {off : Int} {tgt : Nat} (hX : OK X cc own nL RM) (hd : decode cc pc = .ok (.if_icmp .eq off, 3)) (ht : (pc : Int) + off = (tgt : Int)) (kt : x = y → V X w k n tgt lv st) (kf : ¬ x = y → V X w k n (pc + 3) lv st) : V X w k n pc lv (.int y :: .int x :: st) :=
  fun H locs ls a b c d => lv_icmp_eq hX.1.1 hX.1.2.1 hd ht (fun q => kt q H locs ls a b c d) (fun q => kf q H locs ls a b c d)
theorem v_icmp_eq_t {x y : Int32} {off : Int} {tgt : Nat} (hX : OK X cc own nL RM) (hd : decode cc pc = .ok (.if_icmp .eq off, 3)) (ht : (pc : Int) + off = (tgt : Int)) (hc : x = y) (kt : V X w k n tgt lv st) : V X w k n pc lv (.int y :: .int x :: st) :=
  v_icmp_eq hX hd ht (fun _ => kt) (fun q => absurd hc q)
theorem v_icmp_eq_f {x y : Int32} {off : Int} (hX : OK X cc own nL RM) (hd : decode cc pc = .ok (.if_icmp .eq off, 3)) {tgt : Nat} (ht : (pc : Int) + off = (tgt : Int)) (hc : ¬ x = y) (kf : V X w k n (pc + 3) lv st) : V X w k n pc lv (.int y :: .int x :: st) :=
  v_icmp_eq hX hd ht (fun q => absurd q hc) (fun _ => kf)
theorem v_if_ne {x : Int32} {off : Int} {tgt : Nat} (hX : OK X cc own nL RM) (hd : decode cc pc = .ok (.ifCond .ne off, 3)) (ht : (pc : Int) + off = (tgt : Int)) (kt : ¬ x = 0 → V X w k n tgt lv st) (kf : x = 0 → V X w k n (pc + 3) lv st) : V X w k n pc lv (.int x :: st) :=
  fun H locs ls a b c d => lv_if_ne hX.1.1 hX.1.2.1 hd ht (fun q => kt q H locs ls a b c d) (fun q => kf q H locs ls a b c d)
theorem v_if_ne_t {x : Int32} {off : Int} {tgt : Nat} (hX : OK X cc own nL RM) (hd : decode cc pc = .ok (.ifCond .ne off, 3)) (ht : (pc : Int) + off = (tgt : Int)) (hc : ¬ x = 0) (kt : V X w k n tgt lv st) : V X w k n pc lv (.int x :: st) :=
  v_if_ne hX hd ht (fun _ => kt) (fun q => absurd q hc)
theorem v_if_ne_f {x : Int32} {off : Int} (hX : OK X cc own nL RM) (hd : decode cc pc = .ok (.ifCond .ne off, 3)) {tgt : Nat} (ht : (pc : Int) + off = (tgt : Int)) (hc : x = 0) (kf : V X w k n (pc + 3) lv st) : V X w k n pc lv (.int x :: st) :=
  v_if_ne hX hd ht (fun q => absurd hc q) (fun _ => kf)
theorem v_icmp_ne {x y : Int32} {off : Int} {tgt : Nat} (hX : OK X cc own nL RM) (hd : decode cc pc = .ok (.if_icmp .ne off, 3)) (ht : (pc : Int) + off = (tgt : Int)) (kt : ¬ x = y → V X w k n tgt lv st) (kf : x = y → V X w k n (pc + 3) lv st) : V X w k n pc lv (.int y :: .int x :: st) :=
  fun H locs ls a b c d => lv_icmp_ne hX.1.1 hX.1.2.1 hd ht (fun q => kt q H locs ls a b c d) (fun q => kf q H locs ls a b c d)
theorem v_icmp_ne_t {x y : Int32} {off : Int} {tgt : Nat} (hX : OK X cc own nL RM) (hd : decode cc pc = .ok (.if_icmp .ne off, 3)) (ht : (pc : Int) + off = (tgt : Int)) (hc : ¬ x = y) (kt : V X w k n tgt lv st) : V X w k n pc lv (.int y :: .int x :: st) :=
  v_icmp_ne hX hd ht (fun _ => kt) (fun q => absurd q hc)
theorem v_icmp_ne_f {x y : Int32} {off : Int} (hX : OK X cc own nL RM) (hd : decode cc pc = .ok (.if_icmp .ne off, 3)) {tgt : Nat} (ht : (pc : Int) + off = (tgt : Int)) (hc : x = y) (kf : V X w k n (pc + 3) lv st) : V X w k n pc lv (.int y :: .int x :: st) :=
  v_icmp_ne hX hd ht (fun q => absurd hc q) (fun _ => kf)
theorem v_if_lt {x : Int32} {off : Int} {tgt : Nat} (hX : OK X cc own nL RM) (hd : decode cc pc = .ok (.ifCond .lt off, 3)) (ht : (pc : Int) + off = (tgt : Int)) (kt : x < 0 → V X w k n tgt lv st) (kf : ¬ x < 0 → V X w k n (pc + 3) lv st) : V X w k n pc lv (.int x :: st) :=
  fun H locs ls a b c d => lv_if_lt hX.1.1 hX.1.2.1 hd ht (fun q => kt q H locs ls a b c d) (fun q => kf q H locs ls a b c d)
theorem v_if_lt_t {x : Int32} {off : Int} {tgt : Nat} (hX : OK X cc own nL RM) (hd : decode cc pc = .ok (.ifCond .lt off, 3)) (ht : (pc : Int) + off = (tgt : Int)) (hc : x < 0) (kt : V X w k n tgt lv st) : V X w k n pc lv (.int x :: st) :=
  v_if_lt hX hd ht (fun _ => kt) (fun q => absurd hc q)
theorem v_if_lt_f {x : Int32} {off : Int} (hX : OK X cc own nL RM) (hd : decode cc pc = .ok (.ifCond .lt off, 3)) {tgt : Nat} (ht : (pc : Int) + off = (tgt : Int)) (hc : ¬ x < 0) (kf : V X w k n (pc + 3) lv st) : V X w k n pc lv (.int x :: st) :=
  v_if_lt hX hd ht (fun q => absurd q hc) (fun _ => kf)
theorem v_icmp_lt {x y : Int32} {off : Int} {tgt : Nat} (hX : OK X cc own nL RM) (hd : decode cc pc = .ok (.if_icmp .lt off, 3)) (ht : (pc : Int) + off = (tgt : Int)) (kt : x < y → V X w k n tgt lv st) (kf : ¬ x < y → V X w k n (pc + 3) lv st) : V X w k n pc lv (.int y :: .int x :: st) :=
  fun H locs ls a b c d => lv_icmp_lt hX.1.1 hX.1.2.1 hd ht (fun q => kt q H locs ls a b c d) (fun q => kf q H locs ls a b c d)
theorem v_icmp_lt_t {x y : Int32} {off : Int} {tgt : Nat} (hX : OK X cc own nL RM) (hd : decode cc pc = .ok (.if_icmp .lt off, 3)) (ht : (pc : Int) + off = (tgt : Int)) (hc : x < y) (kt : V X w k n tgt lv st) : V X w k n pc lv (.int y :: .int x :: st) :=
  v_icmp_lt hX hd ht (fun _ => kt) (fun q => absurd hc q)
theorem v_icmp_lt_f {x y : Int32} {off : Int} (hX : OK X cc own nL RM) (hd : decode cc pc = .ok (.if_icmp .lt off, 3)) {tgt : Nat} (ht : (pc : Int) + off = (tgt : Int)) (hc : ¬ x < y) (kf : V X w k n (pc + 3) lv st) : V X w k n pc lv (.int y :: .int x :: st) :=
  v_icmp_lt hX hd ht (fun q => absurd q hc) (fun _ => kf)
theorem v_if_ge {x : Int32} {off : Int} {tgt : Nat} (hX : OK X cc own nL RM) (hd : decode cc pc = .ok (.ifCond .ge off, 3)) (ht : (pc : Int) + off = (tgt : Int)) (kt : 0 ≤ x → V X w k n tgt lv st) (kf : ¬ 0 ≤ x → V X w k n (pc + 3) lv st) : V X w k n pc lv (.int x :: st) :=
  fun H locs ls a b c d => lv_if_ge hX.1.1 hX.1.2.1 hd ht (fun q => kt q H locs ls a b c d) (fun q => kf q H locs ls a b c d)
theorem v_if_ge_t {x : Int32} {off : Int} {tgt : Nat} (hX : OK X cc own nL RM) (hd : decode cc pc = .ok (.ifCond .ge off, 3)) (ht : (pc : Int) + off = (tgt : Int)) (hc : 0 ≤ x) (kt : V X w k n tgt lv st) : V X w k n pc lv (.int x :: st) :=
  v_if_ge hX hd ht (fun _ => kt) (fun q => absurd hc q)
theorem v_if_ge_f {x : Int32} {off : Int} (hX : OK X cc own nL RM) (hd : decode cc pc = .ok (.ifCond .ge off, 3)) {tgt : Nat} (ht : (pc : Int) + off = (tgt : Int)) (hc : ¬ 0 ≤ x) (kf : V X w k n (pc + 3) lv st) : V X w k n pc lv (.int x :: st) :=
  v_if_ge hX hd ht (fun q => absurd q hc) (fun _ => kf)
theorem v_icmp_ge {x y : Int32} {off : Int} {tgt : Nat} (hX : OK X cc own nL RM) (hd : decode cc pc = .ok (.if_icmp .ge off, 3)) (ht : (pc : Int) + off = (tgt : Int)) (kt : y ≤ x → V X w k n tgt lv st) (kf : ¬ y ≤ x → V X w k n (pc + 3) lv st) : V X w k n pc lv (.int y :: .int x :: st) :=
  fun H locs ls a b c d => lv_icmp_ge hX.1.1 hX.1.2.1 hd ht (fun q => kt q H locs ls a b c d) (fun q => kf q H locs ls a b c d)
theorem v_icmp_ge_t {x y : Int32} {off : Int} {tgt : Nat} (hX : OK X cc own nL RM) (hd : decode cc pc = .ok (.if_icmp .ge off, 3)) (ht : (pc : Int) + off = (tgt : Int)) (hc : y ≤ x) (kt : V X w k n tgt lv st) : V X w k n pc lv (.int y :: .int x :: st) :=
  v_icmp_ge hX hd ht (fun _ => kt) (fun q => absurd hc q)
theorem v_icmp_ge_f {x y : Int32} {off : Int} (hX : OK X cc own nL RM) (hd : decode cc pc = .ok (.if_icmp .ge off, 3)) {tgt : Nat} (ht : (pc : Int) + off = (tgt : Int)) (hc : ¬ y ≤ x) (kf : V X w k n (pc + 3) lv st) : V X w k n pc lv (.int y :: .int x :: st) :=
  v_icmp_ge hX hd ht (fun q => absurd q hc) (fun _ => kf)
theorem v_if_gt {x : Int32} {off : Int} {tgt : Nat} (hX : OK X cc own nL RM) (hd : decode cc pc = .ok (.ifCond .gt off, 3)) (ht : (pc : Int) + off = (tgt : Int)) (kt : 0 < x → V X w k n tgt lv st) (kf : ¬ 0 < x → V X w k n (pc + 3) lv st) : V X w k n pc lv (.int x :: st) :=
  fun H locs ls a b c d => lv_if_gt hX.1.1 hX.1.2.1 hd ht (fun q => kt q H locs ls a b c d) (fun q => kf q H locs ls a b c d)
theorem v_if_gt_t {x : Int32} {off : Int} {tgt : Nat} (hX : OK X cc own nL RM) (hd : decode cc pc = .ok (.ifCond .gt off, 3)) (ht : (pc : Int) + off = (tgt : Int)) (hc : 0 < x) (kt : V X w k n tgt lv st) : V X w k n pc lv (.int x :: st) :=
  v_if_gt hX hd ht (fun _ => kt) (fun q => absurd hc q)
theorem v_if_gt_f {x : Int32} {off : Int} (hX : OK X cc own nL RM) (hd : decode cc pc = .ok (.ifCond .gt off, 3)) {tgt : Nat} (ht : (pc : Int) + off = (tgt : Int)) (hc : ¬ 0 < x) (kf : V X w k n (pc + 3) lv st) : V X w k n pc lv (.int x :: st) :=
  v_if_gt hX hd ht (fun q => absurd q hc) (fun _ => kf)
theorem v_icmp_gt {x y : Int32} {off : Int} {tgt : Nat} (hX : OK X cc own nL RM) (hd : decode cc pc = .ok (.if_icmp .gt off, 3)) (ht : (pc : Int) + off = (tgt : Int)) (kt : y < x → V X w k n tgt lv st) (kf : ¬ y < x → V X w k n (pc + 3) lv st) : V X w k n pc lv (.int y :: .int x :: st) :=
  fun H locs ls a b c d => lv_icmp_gt hX.1.1 hX.1.2.1 hd ht (fun q => kt q H locs ls a b c d) (fun q => kf q H locs ls a b c d)
theorem v_icmp_gt_t {x y : Int32} {off : Int} {tgt : Nat} (hX : OK X cc own nL RM) (hd : decode cc pc = .ok (.if_icmp .gt off, 3)) (ht : (pc : Int) + off = (tgt : Int)) (hc : y < x) (kt : V X w k n tgt lv st) : V X w k n pc lv (.int y :: .int x :: st) :=
  v_icmp_gt hX hd ht (fun _ => kt) (fun q => absurd hc q)
theorem v_icmp_gt_f {x y : Int32} {off : Int} (hX : OK X cc own nL RM) (hd : decode cc pc = .ok (.if_icmp .gt off, 3)) {tgt : Nat} (ht : (pc : Int) + off = (tgt : Int)) (hc : ¬ y < x) (kf : V X w k n (pc + 3) lv st) : V X w k n pc lv (.int y :: .int x :: st) :=
  v_icmp_gt hX hd ht (fun q => absurd q hc) (fun _ => kf)
theorem v_if_le {x : Int32} {off : Int} {tgt : Nat} (hX : OK X cc own nL RM) (hd : decode cc pc = .ok (.ifCond .le off, 3)) (ht : (pc : Int) + off = (tgt : Int)) (kt : x ≤ 0 → V X w k n tgt lv st) (kf : ¬ x ≤ 0 → V X w k n (pc + 3) lv st) : V X w k n pc lv (.int x :: st) :=
  fun H locs ls a b c d => lv_if_le hX.1.1 hX.1.2.1 hd ht (fun q => kt q H locs ls a b c d) (fun q => kf q H locs ls a b c d)
theorem v_if_le_t {x : Int32} {off : Int} {tgt : Nat} (hX : OK X cc own nL RM) (hd : decode cc pc = .ok (.ifCond .le off, 3)) (ht : (pc : Int) + off = (tgt : Int)) (hc : x ≤ 0) (kt : V X w k n tgt lv st) : V X w k n pc lv (.int x :: st) :=
  v_if_le hX hd ht (fun _ => kt) (fun q => absurd hc q)
theorem v_if_le_f {x : Int32} {off : Int} (hX : OK X cc own nL RM) (hd : decode cc pc = .ok (.ifCond .le off, 3)) {tgt : Nat} (ht : (pc : Int) + off = (tgt : Int)) (hc : ¬ x ≤ 0) (kf : V X w k n (pc + 3) lv st) : V X w k n pc lv (.int x :: st) :=
  v_if_le hX hd ht (fun q => absurd q hc) (fun _ => kf)
theorem v_icmp_le {x y : Int32} {off : Int} {tgt : Nat} (hX : OK X cc own nL RM) (hd : decode cc pc = .ok (.if_icmp .le off, 3)) (ht : (pc : Int) + off = (tgt : Int)) (kt : x ≤ y → V X w k n tgt lv st) (kf : ¬ x ≤ y → V X w k n (pc + 3) lv st) : V X w k n pc lv (.int y :: .int x :: st) :=
  fun H locs ls a b c d => lv_icmp_le hX.1.1 hX.1.2.1 hd ht (fun q => kt q H locs ls a b c d) (fun q => kf q H locs ls a b c d)
theorem v_icmp_le_t {x y : Int32} {off : Int} {tgt : Nat} (hX : OK X cc own nL RM) (hd : decode cc pc = .ok (.if_icmp .le off, 3)) (ht : (pc : Int) + off = (tgt : Int)) (hc : x ≤ y) (kt : V X w k n tgt lv st) : V X w k n pc lv (.int y :: .int x :: st) :=
  v_icmp_le hX hd ht (fun _ => kt) (fun q => absurd hc q)
theorem v_icmp_le_f {x y : Int32} {off : Int} (hX : OK X cc own nL RM) (hd : decode cc pc = .ok (.if_icmp .le off, 3)) {tgt : Nat} (ht : (pc : Int) + off = (tgt : Int)) (hc : ¬ x ≤ y) (kf : V X w k n (pc + 3) lv st) : V X w k n pc lv (.int y :: .int x :: st) :=
  v_icmp_le hX hd ht (fun q => absurd q hc) (fun _ => kf)
theorem v_goto {off : Int} {tgt : Nat} (hX : OK X cc own nL RM) (hd : decode cc pc = .ok (.goto off, 3)) (ht : (pc : Int) + off = (tgt : Int)) (kk : V X w k n tgt lv st) : V X w k n pc lv st :=
  fun H locs ls a b c d => lv_goto hX.1.1 hX.1.2.1 hd ht (kk H locs ls a b c d)
theorem v_ifnull {x : Nat} {off : Int} (hX : OK X cc own nL RM) (hd : decode cc pc = .ok (.ifnull off, 3)) (kk : V X w k n (pc + 3) lv st) : V X w k n pc lv (.ref x :: st) :=
  fun H locs ls a b c d => lv_ifnull hX.1.1 hX.1.2.1 hd (kk H locs ls a b c d)
theorem v_ifnonnull {x : Nat} {off : Int} {tgt : Nat} (hX : OK X cc own nL RM) (hd : decode cc pc = .ok (.ifnonnull off, 3)) (ht : (pc : Int) + off = (tgt : Int)) (kk : V X w k n tgt lv st) : V X w k n pc lv (.ref x :: st) :=
  fun H locs ls a b c d => lv_ifnonnull hX.1.1 hX.1.2.1 hd ht (kk H locs ls a b c d)
theorem v_ifnullN {off : Int} {tgt : Nat} (hX : OK X cc own nL RM) (hd : decode cc pc = .ok (.ifnull off, 3)) (ht : (pc : Int) + off = (tgt : Int)) (kk : V X w k n tgt lv st) : V X w k n pc lv (.null :: st) :=
  fun H locs ls a b c d => lv_ifnullN hX.1.1 hX.1.2.1 hd ht (kk H locs ls a b c d)
theorem v_ifnonnullN {off : Int} (hX : OK X cc own nL RM) (hd : decode cc pc = .ok (.ifnonnull off, 3)) (kk : V X w k n (pc + 3) lv st) : V X w k n pc lv (.null :: st) :=
  fun H locs ls a b c d => lv_ifnonnullN hX.1.1 hX.1.2.1 hd (kk H locs ls a b c d)
theorem v_acmp_eq {x y : Nat} {off : Int} {tgt : Nat} (hX : OK X cc own nL RM) (hd : decode cc pc = .ok (.if_acmp .eq off, 3)) (ht : (pc : Int) + off = (tgt : Int)) (kt : x = y → V X w k n tgt lv st) (kf : ¬ x = y → V X w k n (pc + 3) lv st) : V X w k n pc lv (.ref y :: .ref x :: st) :=
  fun H locs ls a b c d => lv_acmp_eq (rx := some x) (ry := some y) hX.1.1 hX.1.2.1 hd ht (fun q => kt (Option.some.inj q) H locs ls a b c d) (fun q => kf (fun z => q (congrArg some z)) H locs ls a b c d)
theorem v_acmp_ne {x y : Nat} {off : Int} {tgt : Nat} (hX : OK X cc own nL RM) (hd : decode cc pc = .ok (.if_acmp .ne off, 3)) (ht : (pc : Int) + off = (tgt : Int)) (kt : ¬ x = y → V X w k n tgt lv st) (kf : x = y → V X w k n (pc + 3) lv st) : V X w k n pc lv (.ref y :: .ref x :: st) :=
  fun H locs ls a b c d => lv_acmp_ne (rx := some x) (ry := some y) hX.1.1 hX.1.2.1 hd ht (fun q => kt (fun z => q (congrArg some z)) H locs ls a b c d) (fun q => kf (Option.some.inj q) H locs ls a b c d)
theorem v_lookup {dflt : Int} {ps : Array (Int × Int)} {len : Nat} {x : Int32} {off : Int} {tgt : Nat} (hX : OK X cc own nL RM) (hd : decode cc pc = .ok (.lookupswitch dflt ps, len)) (hp : (ps.toList.zip (ps.toList.drop 1)).all (fun (a, next) => a.1 < next.1) = true) (ho : Op.lookupswitch.offset ps.toList dflt x.toInt = off) (ht : (pc : Int) + off = (tgt : Int)) (kk : V X w k n tgt lv st) : V X w k n pc lv (.int x :: st) :=
  fun H locs ls a b c d => lv_lookup hX.1.1 hX.1.2.1 hd hp ho ht (kk H locs ls a b c d)
theorem v_tableOut {dflt lo hi : Int} {offs : Array Int} {len : Nat} {x : Int32} {tgt : Nat} (hX : OK X cc own nL RM) (hd : decode cc pc = .ok (.tableswitch dflt lo hi offs, len)) (h : x.toInt < lo ∨ hi < x.toInt) (ht : (pc : Int) + dflt = (tgt : Int)) (kk : V X w k n tgt lv st) : V X w k n pc lv (.int x :: st) :=
  fun H locs ls a b c d => lv_tableOut hX.1.1 hX.1.2.1 hd h ht (kk H locs ls a b c d)
theorem v_tableIn {dflt lo hi : Int} {offs : Array Int} {len : Nat} {x : Int32} {off : Int} {tgt : Nat} (hX : OK X cc own nL RM) (hd : decode cc pc = .ok (.tableswitch dflt lo hi offs, len)) (h1 : ¬ x.toInt < lo) (h2 : ¬ hi < x.toInt) (ho : offs[(x.toInt - lo).toNat]? = some off) (ht : (pc : Int) + off = (tgt : Int)) (kk : V X w k n tgt lv st) : V X w k n pc lv (.int x :: st) :=
  fun H locs ls a b c d => lv_tableIn hX.1.1 hX.1.2.1 hd h1 h2 ho ht (kk H locs ls a b c d)
/-- one cell of the world, as the kit's list -/
theorem w_one {H : Heap} {Γ : Gm} (a : wRP Γ w H) {x : Nat} {q : Bool × va_E} (he : w x = some q) : va_P Γ.1 vwCl [(x, q.2)] H := by
  intro j z hz
  match j, hz with
  | 0, hz => cases hz; exact a x q he
  | j + 1, hz => simp at hz
/-- the cells that may be written, as a list -/
def wlist (w : Wd) (N : Nat) : va_W := (List.range N).filterMap (fun b => match w b with | some (true, e) => some (b, e) | _ => none)
theorem wlist_mem {N : Nat} {q : Nat × va_E} : q ∈ wlist w N ↔ q.1 < N ∧ w q.1 = some (true, q.2) := by
  unfold wlist
  constructor
  · intro h
    obtain ⟨i, hi, he⟩ := List.mem_filterMap.mp h
    split at he
    · rename_i e hv
      cases he
      exact ⟨List.mem_range.mp hi, hv⟩
    · cases he
  · intro h
    refine List.mem_filterMap.mpr ⟨q.1, List.mem_range.mpr h.1, ?_⟩
    rw [h.2]
theorem wlist_nd (w : Wd) (N : Nat) : ∀ (i j : Nat) (p q : Nat × va_E), (wlist w N)[i]? = some p → (wlist w N)[j]? = some q → p.1 = q.1 → i = j := by
  have hp : ((wlist w N).map (fun q => q.1)).Pairwise (· < ·) := by
    rw [List.pairwise_map]
    unfold wlist
    rw [List.pairwise_filterMap]
    refine List.Pairwise.imp ?_ List.pairwise_lt_range
    intro x y hxy b hb c hc
    have hb1 : b.1 = x := by
      split at hb
      · cases hb; rfl
      · cases hb
    have hc1 : c.1 = y := by
      split at hc
      · cases hc; rfl
      · cases hc
    rw [hb1, hc1]
    exact hxy
  intro i j p q hi hj he
  have hi2 : ((wlist w N).map (fun q => q.1))[i]? = some p.1 := by rw [List.getElem?_map, hi]; rfl
  have hj2 : ((wlist w N).map (fun q => q.1))[j]? = some q.1 := by rw [List.getElem?_map, hj]; rfl
  obtain ⟨hi3, hi4⟩ := List.getElem?_eq_some_iff.mp hi2
  obtain ⟨hj3, hj4⟩ := List.getElem?_eq_some_iff.mp hj2
  rw [List.pairwise_iff_getElem] at hp
  rcases Nat.lt_trichotomy i j with h | h | h
  · have := hp i j hi3 hj3 h
    rw [hi4, hj4, he] at this
    exact absurd this (Nat.lt_irrefl _)
  · exact h
  · have := hp j i hj3 hi3 h
    rw [hi4, hj4, he] at this
    exact absurd this (Nat.lt_irrefl _)
/-- V's start, for a row that writes: the list, its laws, and the way back -/
theorem w_lst {H : Heap} {Γ : Gm} {A : Nat → Prop} {F : Nat → va_E → Prop} (a : wRP Γ w H) (c : (∀ (a : Nat) (e : va_E), w a = some (true, e) → A a) ∧ ∀ (a : Nat) (e : va_E), w a = some (false, e) → F a e) : va_P Γ.1 vwCl (wlist w H.size) H ∧ va_D A (wlist w H.size) := by
  refine ⟨fun j z hz => ?_, wlist_nd w H.size, fun j z hz => ?_⟩
  · have h := wlist_mem.mp (List.mem_of_getElem? hz)
    exact a z.1 _ h.2
  · have h := wlist_mem.mp (List.mem_of_getElem? hz)
    exact c.1 z.1 _ h.2
theorem w_at {H : Heap} {Γ : Gm} (a : wRP Γ w H) {x : Nat} {e : va_E} (he : w x = some (true, e)) : ∃ q0 : Nat, (wlist w H.size)[q0]? = some (x, e) := by
  have : (x, e) ∈ wlist w H.size := wlist_mem.mpr ⟨va_at.lt (a x _ he), he⟩
  exact List.getElem?_of_mem this
/-- back from the kit's list with one cell set -/
theorem w_back {H H1 : Heap} {Γ : Gm} {A : Nat → Prop} {F : Nat → va_E → Prop} {H0 : Heap} {locs locs1 : List Loc} (a : wRP Γ w H) (b : va_S A H0 H locs) (b1 : va_S A H0 H1 locs1) (c : (∀ (a : Nat) (e : va_E), w a = some (true, e) → A a) ∧ ∀ (a : Nat) (e : va_E), w a = some (false, e) → F a e) (hF : ∀ (a : Nat) (e : va_E), F a e → ¬ A a ∧ a < H0.size) {x : Nat} {e e' : va_E} (he : w x = some (true, e)) {q0 : Nat} (hq : (wlist w H.size)[q0]? = some (x, e)) (hP : va_P Γ.1 vwCl ((wlist w H.size).set q0 (x, e')) H1) :
    wRP Γ (wup w x (true, e')) H1 ∧ ((∀ (a : Nat) (e : va_E), wup w x (true, e') a = some (true, e) → A a) ∧ ∀ (a : Nat) (e : va_E), wup w x (true, e') a = some (false, e) → F a e) := by
  have hlen := (List.getElem?_eq_some_iff.mp hq).1
  refine ⟨fun y z hz => ?_, fun y z hz => ?_, fun y z hz => ?_⟩
  · by_cases h : y = x
    · subst h
      rw [wup_s] at hz
      cases hz
      have := hP q0 (y, e') (by rw [List.getElem?_set, if_pos rfl, if_pos hlen])
      exact this
    · rw [wup_n h] at hz
      obtain ⟨t, ez⟩ := z
      cases t with
      | true =>
        obtain ⟨i, hi⟩ := w_at a hz
        have hne : q0 ≠ i := by
          intro e2
          subst e2
          rw [hq] at hi
          cases hi
          exact h rfl
        have := hP i (y, ez) (by rw [List.getElem?_set_ne hne]; exact hi)
        exact this
      | false =>
        have h2 := hF y ez (c.2 y ez hz)
        have h3 := a y _ hz
        have e1 : H1[y]? = H[y]? := by rw [b1.2.1 y h2.2 h2.1, b.2.1 y h2.2 h2.1]
        exact va_at.kept h3 e1
  · by_cases h : y = x
    · subst h; exact c.1 y e he
    · rw [wup_n h] at hz; exact c.1 y z hz
  · by_cases h : y = x
    · subst h; rw [wup_s] at hz; cases hz
    · rw [wup_n h] at hz; exact c.2 y z hz
/-- back from the kit's list with one cell more -/
theorem w_more {H H1 : Heap} {Γ : Gm} {A : Nat → Prop} {F : Nat → va_E → Prop} {H0 : Heap} {locs locs1 : List Loc} (a : wRP Γ w H) (b : va_S A H0 H locs) (b1 : va_S A H0 H1 locs1) (c : (∀ (a : Nat) (e : va_E), w a = some (true, e) → A a) ∧ ∀ (a : Nat) (e : va_E), w a = some (false, e) → F a e) (hF : ∀ (a : Nat) (e : va_E), F a e → ¬ A a ∧ a < H0.size) {x : Nat} {e : va_E} (hP : va_P Γ.1 vwCl (wlist w H.size ++ [(x, e)]) H1) (hD : va_D A (wlist w H.size ++ [(x, e)])) :
    w x = none ∧ wRP Γ (wup w x (true, e)) H1 ∧ ((∀ (a : Nat) (e' : va_E), wup w x (true, e) a = some (true, e') → A a) ∧ ∀ (a : Nat) (e' : va_E), wup w x (true, e) a = some (false, e') → F a e') := by
  have hlast : (wlist w H.size ++ [(x, e)])[(wlist w H.size).length]? = some (x, e) := by
    rw [List.getElem?_append_right (Nat.le_refl _), Nat.sub_self]; rfl
  have hAx : A x := hD.2 _ _ hlast
  have hx : w x = none := by
    cases hw : w x with
    | none => rfl
    | some q =>
      obtain ⟨t, ez⟩ := q
      cases t with
      | true =>
        obtain ⟨i, hi⟩ := w_at a hw
        have hl := (List.getElem?_eq_some_iff.mp hi).1
        have := hD.1 i _ (x, ez) (x, e) (by rw [List.getElem?_append_left hl]; exact hi) hlast rfl
        omega
      | false => exact absurd hAx (hF x ez (c.2 x ez hw)).1
  refine ⟨hx, fun y z hz => ?_, fun y z hz => ?_, fun y z hz => ?_⟩
  · by_cases h : y = x
    · subst h
      rw [wup_s] at hz
      cases hz
      exact hP _ _ hlast
    · rw [wup_n h] at hz
      obtain ⟨t, ez⟩ := z
      cases t with
      | true =>
        obtain ⟨i, hi⟩ := w_at a hz
        have hl := (List.getElem?_eq_some_iff.mp hi).1
        have := hP i (y, ez) (by rw [List.getElem?_append_left hl]; exact hi)
        exact this
      | false =>
        have h2 := hF y ez (c.2 y ez hz)
        have h3 := a y _ hz
        have e1 : H1[y]? = H[y]? := by rw [b1.2.1 y h2.2 h2.1, b.2.1 y h2.2 h2.1]
        exact va_at.kept h3 e1
  · by_cases h : y = x
    · subst h; exact hAx
    · rw [wup_n h] at hz; exact c.1 y z hz
  · by_cases h : y = x
    · subst h; rw [wup_s] at hz; cases hz
    · rw [wup_n h] at hz; exact c.2 y z hz
theorem v_get {ref C : String} {T : u_T} {N ci index x : Nat} {t : Bool} {fs : List Value} {v : Value} (hX : OK X cc own nL RM) (hd : decode cc pc = .ok (.getfield index, 3)) (hin : ∀ w ∈ u_ws C T N, w ∈ lw_all) (hc : vwCl[ci]? = some (C, T, N)) (j : Nat) (hj : j < N) (hlink : Cond.fieldLink own index ref (T j).2.1 (T j).2.2.1 ∈ lw_all) (hsame : ∀ x, (xs X).fieldFound? (T j).1 (T j).2.1 (T j).2.2.1 = some x → (xs X).fieldFound? ref (T j).2.1 (T j).2.2.1 = some x) (he : w x = some (t, .inr (ci, fs))) (hv : fs[j]? = some v) (kk : V X w k n (pc + 3) lv (v :: st)) : V X w k n pc lv (.ref x :: st) :=
  fun H locs ls a b c d => va_get (C := C) (T := T) (N := N) (ci := ci) hX.1.1 hX.1.2.1 hX.1.2.2.2.2 hin hX.1.2.2.2.1 hX.2.1 (w_one a he) 0 rfl hc j hj (hX.1.2.2.2.2 _ hlink) hsame hv hd (kk H locs ls a b c d)
theorem v_getN {ref C host : String} {T : u_T} {N ci index x : Nat} {t : Bool} {fs : List Value} {v : Value} (hX : OK X cc own nL RM) (hd : decode cc pc = .ok (.getfield index, 3)) (hin : ∀ w ∈ u_ws C T N, w ∈ lw_all) (hc : vwCl[ci]? = some (C, T, N)) (j : Nat) (hj : j < N) (hlink : (Cond.fieldLinkNest own index ref (T j).2.1 (T j).2.2.1 host).before (xa X) (xs X) = true) (hsame : ∀ x, (xs X).fieldFound? (T j).1 (T j).2.1 (T j).2.2.1 = some x → (xs X).fieldFound? ref (T j).2.1 (T j).2.2.1 = some x) (he : w x = some (t, .inr (ci, fs))) (hv : fs[j]? = some v) (kk : V X w k n (pc + 3) lv (v :: st)) : V X w k n pc lv (.ref x :: st) :=
  fun H locs ls a b c d => va_getN (C := C) (T := T) (N := N) (ci := ci) hX.1.1 hX.1.2.1 hX.1.2.2.2.2 hin hX.1.2.2.2.1 hX.2.1 (w_one a he) 0 rfl hc j hj hlink hsame hv hd (kk H locs ls a b c d)
theorem v_put {ref C : String} {T : u_T} {N ci index x : Nat} {fs : List Value} {v : Value} {ty : FieldType} (hX : OK X cc own nL RM) (hd : decode cc pc = .ok (.putfield index, 3)) (hin : ∀ w ∈ u_ws C T N, w ∈ lw_all) (ty0 : Nat → FieldType) (hty : ∀ k, k < N → parseFieldDescriptor (T k).2.2.1 = some (ty0 k)) (hnm : ∀ a, a < N → ∀ b, b < N → a ≠ b → (T a).2.1 ≠ (T b).2.1) (hc : vwCl[ci]? = some (C, T, N)) (j : Nat) (hj : j < N) (hlink : Cond.fieldLink own index ref (T j).2.1 (T j).2.2.1 ∈ lw_all) (hsame : ∀ x, (xs X).fieldFound? (T j).1 (T j).2.1 (T j).2.2.1 = some x → (xs X).fieldFound? ref (T j).2.1 (T j).2.2.1 = some x) (hfin : (T j).2.2.2 = false) (hp : parseFieldDescriptor (T j).2.2.1 = some ty) (hn : narrow ty v = v) (hfit : fits ty v = true) (he : w x = some (true, .inr (ci, fs))) (hl : j < fs.length) (kk : V X (wup w x (true, .inr (ci, fs.set j v))) k n (pc + 3) lv st) : V X w k n pc lv (v :: .ref x :: st) := by
  intro H locs ls a b c d
  obtain ⟨hP, hD⟩ := w_lst a c
  obtain ⟨q0, hq⟩ := w_at a he
  refine va_put (C := C) (T := T) (N := N) (ci := ci) hX.1.1 hX.1.2.1 hX.1.2.2.2.2 hin ty0 hty hnm hX.1.2.2.2.1 hX.2.1 hP hD b q0 hq hc j hj (hX.1.2.2.2.2 _ hlink) hsame hfin hp hn hfit hl hd (fun H1 locs1 hP1 hD1 hS1 => ?_)
  obtain ⟨r1, r2⟩ := w_back a b hS1 c hX.2.2.2.2.2.2.1 he hq hP1
  exact kk H1 locs1 ls r1 hS1 r2 d
theorem v_putN {ref C host : String} {T : u_T} {N ci index x : Nat} {fs : List Value} {v : Value} {ty : FieldType} (hX : OK X cc own nL RM) (hd : decode cc pc = .ok (.putfield index, 3)) (hin : ∀ w ∈ u_ws C T N, w ∈ lw_all) (ty0 : Nat → FieldType) (hty : ∀ k, k < N → parseFieldDescriptor (T k).2.2.1 = some (ty0 k)) (hnm : ∀ a, a < N → ∀ b, b < N → a ≠ b → (T a).2.1 ≠ (T b).2.1) (hc : vwCl[ci]? = some (C, T, N)) (j : Nat) (hj : j < N) (hlink : (Cond.fieldLinkNest own index ref (T j).2.1 (T j).2.2.1 host).before (xa X) (xs X) = true) (hsame : ∀ x, (xs X).fieldFound? (T j).1 (T j).2.1 (T j).2.2.1 = some x → (xs X).fieldFound? ref (T j).2.1 (T j).2.2.1 = some x) (hfin : (T j).2.2.2 = false) (hp : parseFieldDescriptor (T j).2.2.1 = some ty) (hn : narrow ty v = v) (hfit : fits ty v = true) (he : w x = some (true, .inr (ci, fs))) (hl : j < fs.length) (kk : V X (wup w x (true, .inr (ci, fs.set j v))) k n (pc + 3) lv st) : V X w k n pc lv (v :: .ref x :: st) := by
  intro H locs ls a b c d
  obtain ⟨hP, hD⟩ := w_lst a c
  obtain ⟨q0, hq⟩ := w_at a he
  refine va_putN (C := C) (T := T) (N := N) (ci := ci) hX.1.1 hX.1.2.1 hX.1.2.2.2.2 hin ty0 hty hnm hX.1.2.2.2.1 hX.2.1 hP hD b q0 hq hc j hj hlink hsame hfin hp hn hfit hl hd (fun H1 locs1 hP1 hD1 hS1 => ?_)
  obtain ⟨r1, r2⟩ := w_back a b hS1 c hX.2.2.2.2.2.2.1 he hq hP1
  exact kk H1 locs1 ls r1 hS1 r2 d
theorem v_putF {ref C : String} {T : u_T} {N ci index x : Nat} {fs : List Value} {v : Value} {ty : FieldType} (hX : OK X cc own nL RM) (hd : decode cc pc = .ok (.putfield index, 3)) (hin : ∀ w ∈ u_ws C T N, w ∈ lw_all) (ty0 : Nat → FieldType) (hty : ∀ k, k < N → parseFieldDescriptor (T k).2.2.1 = some (ty0 k)) (hnm : ∀ a, a < N → ∀ b, b < N → a ≠ b → (T a).2.1 ≠ (T b).2.1) (hc : vwCl[ci]? = some (C, T, N)) (j : Nat) (hj : j < N) (hlink : Cond.fieldLink own index ref (T j).2.1 (T j).2.2.1 ∈ lw_all) (hsame : ∀ x, (xs X).fieldFound? (T j).1 (T j).2.1 (T j).2.2.1 = some x → (xs X).fieldFound? ref (T j).2.1 (T j).2.2.1 = some x) (hfin : (T j).2.2.2 = true) (hini : (xh X).name = "<init>") (hdecl : (T j).1 = own) (hp : parseFieldDescriptor (T j).2.2.1 = some ty) (hn : narrow ty v = v) (hfit : fits ty v = true) (he : w x = some (true, .inr (ci, fs))) (hl : j < fs.length) (kk : V X (wup w x (true, .inr (ci, fs.set j v))) k n (pc + 3) lv st) : V X w k n pc lv (v :: .ref x :: st) := by
  intro H locs ls a b c d
  obtain ⟨hP, hD⟩ := w_lst a c
  obtain ⟨q0, hq⟩ := w_at a he
  refine va_putF (C := C) (T := T) (N := N) (ci := ci) hX.1.1 hX.1.2.1 hX.1.2.2.2.2 hin ty0 hty hnm hX.1.2.2.2.1 hX.2.1 hP hD b q0 hq hc j hj (hX.1.2.2.2.2 _ hlink) hsame hfin hini hdecl hp hn hfit hl hd (fun H1 locs1 hP1 hD1 hS1 => ?_)
  obtain ⟨r1, r2⟩ := w_back a b hS1 c hX.2.2.2.2.2.2.1 he hq hP1
  exact kk H1 locs1 ls r1 hS1 r2 d
theorem v_iald {x N : Nat} {t : Bool} {f : Nat → Int32} {i : Int32} (hX : OK X cc own nL RM) (hd : decode cc pc = .ok (.iaload, 1)) (he : w x = some (t, .inl ((xG X).2.1 0, N, .inl f))) (hi : vp_in i N) (kk : V X w k n (pc + 1) lv (.int (f i.toNatClampNeg) :: st)) : V X w k n pc lv (.int i :: .ref x :: st) :=
  fun H locs ls a b c d => va_iald hX.1.1 hX.1.2.1 hX.2.1 (w_one a he) 0 0 rfl rfl hi hd (kk H locs ls a b c d)
theorem v_iast {x N : Nat} {f : Nat → Int32} {i : Int32} {z : Int32} (hX : OK X cc own nL RM) (hd : decode cc pc = .ok (.iastore, 1)) (he : w x = some (true, .inl ((xG X).2.1 0, N, .inl f))) (hi : vp_in i N) (kk : V X (wup w x (true, .inl ((xG X).2.1 0, N, .inl (upd f i.toNatClampNeg (z))))) k n (pc + 1) lv st) : V X w k n pc lv (.int z :: .int i :: .ref x :: st) := by
  intro H locs ls a b c d
  obtain ⟨hP, hD⟩ := w_lst a c
  obtain ⟨q0, hq⟩ := w_at a he
  refine va_iast hX.1.1 hX.1.2.1 hX.2.1 hP hD b q0 0 hq rfl hi hd (fun H1 locs1 hP1 hD1 hS1 => ?_)
  obtain ⟨r1, r2⟩ := w_back a b hS1 c hX.2.2.2.2.2.2.1 he hq hP1
  exact kk H1 locs1 ls r1 hS1 r2 d
theorem v_bald {x N : Nat} {t : Bool} {f : Nat → Int32} {i : Int32} (hX : OK X cc own nL RM) (hd : decode cc pc = .ok (.baload, 1)) (he : w x = some (t, .inl ((xG X).2.1 1, N, .inl f))) (hi : vp_in i N) (kk : V X w k n (pc + 1) lv (.int (f i.toNatClampNeg) :: st)) : V X w k n pc lv (.int i :: .ref x :: st) :=
  fun H locs ls a b c d => va_bald hX.1.1 hX.1.2.1 hX.2.1 (w_one a he) 0 1 rfl rfl hi hd (kk H locs ls a b c d)
theorem v_bast {x N : Nat} {f : Nat → Int32} {i : Int32} {z : Int32} (hX : OK X cc own nL RM) (hd : decode cc pc = .ok (.bastore, 1)) (he : w x = some (true, .inl ((xG X).2.1 1, N, .inl f))) (hi : vp_in i N) (kk : V X (wup w x (true, .inl ((xG X).2.1 1, N, .inl (upd f i.toNatClampNeg (vp_nar .byte z))))) k n (pc + 1) lv st) : V X w k n pc lv (.int z :: .int i :: .ref x :: st) := by
  intro H locs ls a b c d
  obtain ⟨hP, hD⟩ := w_lst a c
  obtain ⟨q0, hq⟩ := w_at a he
  refine va_bast hX.1.1 hX.1.2.1 hX.2.1 hP hD b q0 1 hq rfl hi hd (fun H1 locs1 hP1 hD1 hS1 => ?_)
  obtain ⟨r1, r2⟩ := w_back a b hS1 c hX.2.2.2.2.2.2.1 he hq hP1
  exact kk H1 locs1 ls r1 hS1 r2 d
theorem v_cald {x N : Nat} {t : Bool} {f : Nat → Int32} {i : Int32} (hX : OK X cc own nL RM) (hd : decode cc pc = .ok (.caload, 1)) (he : w x = some (t, .inl ((xG X).2.1 2, N, .inl f))) (hi : vp_in i N) (kk : V X w k n (pc + 1) lv (.int (f i.toNatClampNeg) :: st)) : V X w k n pc lv (.int i :: .ref x :: st) :=
  fun H locs ls a b c d => va_cald hX.1.1 hX.1.2.1 hX.2.1 (w_one a he) 0 2 rfl rfl hi hd (kk H locs ls a b c d)
theorem v_cast {x N : Nat} {f : Nat → Int32} {i : Int32} {z : Int32} (hX : OK X cc own nL RM) (hd : decode cc pc = .ok (.castore, 1)) (he : w x = some (true, .inl ((xG X).2.1 2, N, .inl f))) (hi : vp_in i N) (kk : V X (wup w x (true, .inl ((xG X).2.1 2, N, .inl (upd f i.toNatClampNeg (vp_nar .char z))))) k n (pc + 1) lv st) : V X w k n pc lv (.int z :: .int i :: .ref x :: st) := by
  intro H locs ls a b c d
  obtain ⟨hP, hD⟩ := w_lst a c
  obtain ⟨q0, hq⟩ := w_at a he
  refine va_cast hX.1.1 hX.1.2.1 hX.2.1 hP hD b q0 2 hq rfl hi hd (fun H1 locs1 hP1 hD1 hS1 => ?_)
  obtain ⟨r1, r2⟩ := w_back a b hS1 c hX.2.2.2.2.2.2.1 he hq hP1
  exact kk H1 locs1 ls r1 hS1 r2 d
theorem v_lald {x N : Nat} {t : Bool} {f : Nat → Int64} {i : Int32} (hX : OK X cc own nL RM) (hd : decode cc pc = .ok (.laload, 1)) (he : w x = some (t, .inl ((xG X).2.1 3, N, .inr (.inl f)))) (hi : vp_in i N) (kk : V X w k n (pc + 1) lv (.long (f i.toNatClampNeg) :: st)) : V X w k n pc lv (.int i :: .ref x :: st) :=
  fun H locs ls a b c d => va_lald hX.1.1 hX.1.2.1 hX.2.1 (w_one a he) 0 3 rfl rfl hi hd (kk H locs ls a b c d)
theorem v_last {x N : Nat} {f : Nat → Int64} {i : Int32} {z : Int64} (hX : OK X cc own nL RM) (hd : decode cc pc = .ok (.lastore, 1)) (he : w x = some (true, .inl ((xG X).2.1 3, N, .inr (.inl f)))) (hi : vp_in i N) (kk : V X (wup w x (true, .inl ((xG X).2.1 3, N, .inr (.inl (vp_updL f i.toNatClampNeg (z)))))) k n (pc + 1) lv st) : V X w k n pc lv (.long z :: .int i :: .ref x :: st) := by
  intro H locs ls a b c d
  obtain ⟨hP, hD⟩ := w_lst a c
  obtain ⟨q0, hq⟩ := w_at a he
  refine va_last hX.1.1 hX.1.2.1 hX.2.1 hP hD b q0 3 hq rfl hi hd (fun H1 locs1 hP1 hD1 hS1 => ?_)
  obtain ⟨r1, r2⟩ := w_back a b hS1 c hX.2.2.2.2.2.2.1 he hq hP1
  exact kk H1 locs1 ls r1 hS1 r2 d
theorem v_zald {x N : Nat} {t : Bool} {f : Nat → Int32} {i : Int32} (hX : OK X cc own nL RM) (hd : decode cc pc = .ok (.baload, 1)) (he : w x = some (t, .inl ((xG X).2.1 4, N, .inl f))) (hi : vp_in i N) (kk : V X w k n (pc + 1) lv (.int (f i.toNatClampNeg) :: st)) : V X w k n pc lv (.int i :: .ref x :: st) :=
  fun H locs ls a b c d => va_zald hX.1.1 hX.1.2.1 hX.2.1 (w_one a he) 0 4 rfl rfl hi hd (kk H locs ls a b c d)
theorem v_zast {x N : Nat} {f : Nat → Int32} {i : Int32} {z : Int32} (hX : OK X cc own nL RM) (hd : decode cc pc = .ok (.bastore, 1)) (he : w x = some (true, .inl ((xG X).2.1 4, N, .inl f))) (hi : vp_in i N) (kk : V X (wup w x (true, .inl ((xG X).2.1 4, N, .inl (upd f i.toNatClampNeg (vp_nar .boolean z))))) k n (pc + 1) lv st) : V X w k n pc lv (.int z :: .int i :: .ref x :: st) := by
  intro H locs ls a b c d
  obtain ⟨hP, hD⟩ := w_lst a c
  obtain ⟨q0, hq⟩ := w_at a he
  refine va_zast hX.1.1 hX.1.2.1 hX.2.1 hP hD b q0 4 hq rfl hi hd (fun H1 locs1 hP1 hD1 hS1 => ?_)
  obtain ⟨r1, r2⟩ := w_back a b hS1 c hX.2.2.2.2.2.2.1 he hq hP1
  exact kk H1 locs1 ls r1 hS1 r2 d
theorem v_dald {x N : Nat} {t : Bool} {f : Nat → UInt64} {i : Int32} (hX : OK X cc own nL RM) (hd : decode cc pc = .ok (.daload, 1)) (he : w x = some (t, .inl ((xG X).2.1 5, N, .inr (.inr (.inr (.inl f)))))) (hi : vp_in i N) (kk : V X w k n (pc + 1) lv (.double (f i.toNatClampNeg) :: st)) : V X w k n pc lv (.int i :: .ref x :: st) :=
  fun H locs ls a b c d => va_dald hX.1.1 hX.1.2.1 hX.2.1 (w_one a he) 0 5 rfl rfl hi hd (kk H locs ls a b c d)
theorem v_dast {x N : Nat} {f : Nat → UInt64} {i : Int32} {z : UInt64} (hX : OK X cc own nL RM) (hd : decode cc pc = .ok (.dastore, 1)) (he : w x = some (true, .inl ((xG X).2.1 5, N, .inr (.inr (.inr (.inl f)))))) (hi : vp_in i N) (kk : V X (wup w x (true, .inl ((xG X).2.1 5, N, .inr (.inr (.inr (.inl (vf_upd f i.toNatClampNeg (z)))))))) k n (pc + 1) lv st) : V X w k n pc lv (.double z :: .int i :: .ref x :: st) := by
  intro H locs ls a b c d
  obtain ⟨hP, hD⟩ := w_lst a c
  obtain ⟨q0, hq⟩ := w_at a he
  refine va_dast hX.1.1 hX.1.2.1 hX.2.1 hP hD b q0 5 hq rfl hi hd (fun H1 locs1 hP1 hD1 hS1 => ?_)
  obtain ⟨r1, r2⟩ := w_back a b hS1 c hX.2.2.2.2.2.2.1 he hq hP1
  exact kk H1 locs1 ls r1 hS1 r2 d
theorem v_aald {x N : Nat} {t : Bool} {f : Nat → Option Nat} {i : Int32} (hX : OK X cc own nL RM) (hd : decode cc pc = .ok (.aaload, 1)) (he : w x = some (t, .inl ((xG X).2.1 6, N, .inr (.inr (.inr (.inr f)))))) (hi : vp_in i N) (kk : V X w k n (pc + 1) lv (va_rf (f i.toNatClampNeg) :: st)) : V X w k n pc lv (.int i :: .ref x :: st) :=
  fun H locs ls a b c d => va_aldq hX.1.1 hX.1.2.1 hX.2.1 (w_one a he) 0 6 rfl rfl hi hd (kk H locs ls a b c d)
theorem v_alen {x ti : Nat} {t : Bool} {y : vp_A} {cA : ClassId} {ty : FieldType} {v : Int32} (hX : OK X cc own nL RM) (hd : decode cc pc = .ok (.arraylength, 1)) (he : w x = some (t, .inl (cA, y))) (ht : (wty (xG X))[ti]? = some (cA, ty)) (hv : Int32.ofNat y.1 = v) (kk : V X w k n (pc + 1) lv (.int v :: st)) : V X w k n pc lv (.ref x :: st) :=
  fun H locs ls a b c d => va_alen hX.1.1 hX.1.2.1 hX.2.1 (w_one a he) 0 ti rfl ht hv hd (kk H locs ls a b c d)
theorem v_new {C : String} {T : u_T} {N ci index : Nat} {fs : List Value} (hX : OK X cc own nL RM) (hd : decode cc pc = .ok (.new index, 3)) (hin : ∀ w ∈ u_ws C T N, w ∈ lw_all) (ty : Nat → FieldType) (hty : ∀ k, k < N → parseFieldDescriptor (T k).2.2.1 = some (ty k)) (hcl : Cond.classLink own index C ∈ lw_all) (hinst : Cond.instantiable C N ∈ lw_all) (hini : Cond.initialized C ∈ lw_all) (hc : vwCl[ci]? = some (C, T, N)) (hfs : ∀ j, j < N → defaultValue (ty j) = vp_V fs j) (hk : k + 1 ≤ RM.cells) (hn : n + N ≤ RM.slots) (kk : ∀ q : Nat, w q = none → V X (wup w q (true, .inr (ci, fs))) (k + 1) (n + N) (pc + 3) lv (.ref q :: st)) : V X w k n pc lv st := by
  intro H locs ls a b c d
  obtain ⟨hP, hD⟩ := w_lst a c
  refine va_new (C := C) (T := T) (N := N) (ci := ci) hX.1.1 hX.1.2.1 hX.1.2.2.2.2 hin ty hty hX.1.2.2.2.1 (hX.1.2.2.2.2 _ hcl) (hX.1.2.2.2.2 _ hinst) (hX.1.2.2.2.2 _ hini) hX.2.1 hP hD b hX.2.2.2.1 hc hfs (by rw [hX.2.2.2.2.2.2.2]; exact hk) (by rw [hX.2.2.2.2.2.2.2]; exact hn) hd (fun q H1 hP1 hD1 hS1 => ?_)
  obtain ⟨r0, r1, r2⟩ := w_more a b hS1 c hX.2.2.2.2.2.2.1 hP1 hD1
  exact kk q r0 H1 locs ls r1 hS1 r2 d
theorem w_same {Γ : Gm} {s : State} {tys : List (ClassId × FieldType)} {ty : FieldType} {cA cB : ClassId} {i : Nat} (h : va_K Γ.1 vwCl (tys ++ [(cA, ty)]) s) (h2 : va_K Γ.1 vwCl tys s) (hi : tys[i]? = some (cB, ty)) : cA = cB := by
  have h1 := (h.2 tys.length (cA, ty) (by rw [List.getElem?_append_right (Nat.le_refl _), Nat.sub_self]; rfl)).2
  have h3 := (h2.2 i (cB, ty) hi).2
  cases ty with
  | object C =>
    obtain ⟨_, _, _, _, _, e1⟩ := h1
    obtain ⟨_, _, _, _, _, e2⟩ := h3
    exact Option.some.inj (e1.symm.trans e2)
  | _ => exact Option.some.inj (Eq.trans (Eq.symm h1) h3)
theorem v_newa {atype : ArrayType} {ty : FieldType} {ti N : Nat} {j : Int32} {a0 : vp_A} (hX : OK X cc own nL RM) (hd : decode cc pc = .ok (.newarray atype, 2)) (harr : Cond.arrayClass (newarray.typeOf atype) ∈ lw_all) (hty : newarray.typeOf atype = ty) (ht : (wty (xG X))[ti]? = some ((xG X).2.1 ti, ty)) (ha : ∀ cA : ClassId, vp_cell cA a0 = arrV cA N (fun _ => defaultValue ty)) (hj : ¬ j < 0) (hN : j.toNatClampNeg = N) (hbytes : N * componentBytes ty ≤ 536870912) (hk : k + 1 ≤ RM.cells) (hn : n + N ≤ RM.slots) (kk : ∀ q : Nat, w q = none → V X (wup w q (true, .inl ((xG X).2.1 ti, a0))) (k + 1) (n + N) (pc + 2) lv (.ref q :: st)) : V X w k n pc lv (.int j :: st) := by
  intro H locs ls a b c d
  obtain ⟨hP, hD⟩ := w_lst a c
  refine va_newa (a0 := a0) hX.1.1 hX.1.2.1 (hX.1.2.2.2.2 _ harr) hty hX.2.1 hP hD b hX.2.2.2.1 ha hj hN hbytes (by rw [hX.2.2.2.2.2.2.2]; exact hk) (by rw [hX.2.2.2.2.2.2.2]; exact hn) hd (fun q cA H1 hK1 hP1 hD1 hS1 => ?_)
  have hcA := w_same hK1 hX.2.1 ht
  subst hcA
  obtain ⟨r0, r1, r2⟩ := w_more a b hS1 c hX.2.2.2.2.2.2.1 hP1 hD1
  exact kk q r0 H1 locs ls r1 hS1 r2 d
end VROWS
/-- where a method's run must come to -/
def RT (X : Cx) (w0 : Wd) (post : Option Value → Wd → Prop) (mc ms : Nat) (ret : Option FieldType) : Prop := ∃ sz : Nat, xQ X = MQ (xb X) (QR (xG X) w0 sz post) (xa X) (xs X) mc ms (wA w0 sz) ∧ (xh X).sig.returnType = ret ∧ xA X = wA w0 sz ∧ (xs X).heap.size = sz ∧ xF X = fun a e => w0 a = some (false, e)
/-- the locals at the start -/
def lvE : List Value → List (Option Value)
  | [] => []
  | v :: vs => if v.category = 2 then some v :: none :: lvE vs else some v :: lvE vs
theorem lvE_args : ∀ (vs : List Value) (o i : Nat) (v : Value), (lvE vs)[i]? = some (some v) → (o + i, v) ∈ lv_args o vs
  | [], o, i, v, h => by simp [lvE] at h
  | u :: us, o, i, v, h => by
    by_cases hc : u.category = 2
    · rw [lvE, if_pos hc] at h
      rw [lv_args, if_pos hc, List.mem_cons]
      match i, h with
      | 0, h => cases h; exact Or.inl rfl
      | 1, h => cases h
      | i + 2, h =>
        have h2 := lvE_args us (o + 2) i v h
        exact Or.inr (by rw [show o + (i + 2) = o + 2 + i by omega]; exact h2)
    · rw [lvE, if_neg hc] at h
      rw [lv_args, if_neg hc, List.mem_cons]
      match i, h with
      | 0, h => cases h; exact Or.inl rfl
      | i + 1, h =>
        have h2 := lvE_args us (o + 1) i v h
        exact Or.inr (by rw [show o + (i + 1) = o + 1 + i by omega]; exact h2)
theorem LH.ofHas {ls : Array Slot} {nL : Nat} {vs : List Value} {lv : List (Option Value)} (h : lv_has ls nL (lv_args 0 vs)) (hl : lv.length = nL) (hv : ∀ (i : Nat) (v : Value), lv[i]? = some (some v) → (lvE vs)[i]? = some (some v)) : LH ls lv :=
  ⟨h.1.trans hl.symm, h.2.1, fun i v hi => by
    have := lvE_args vs 0 i v (hv i v hi)
    rw [Nat.zero_add] at this
    exact h.2.2 _ this⟩
theorem lvE_pad {vs : List Value} {lv : List (Option Value)} {j : Nat} (hl : lvE vs ++ List.replicate j none = lv) : ∀ (i : Nat) (v : Value), lv[i]? = some (some v) → (lvE vs)[i]? = some (some v) := by
  intro i v h
  rw [← hl] at h
  rcases Nat.lt_or_ge i (lvE vs).length with q | q
  · rw [List.getElem?_append_left q] at h; exact h
  · rw [List.getElem?_append_right q, List.getElem?_replicate] at h
    split at h
    · cases h
    · cases h
theorem M0.of {Γ : Gm} {l : Launch} {y : MethodName} {cc : ByteArray} {maxL : Nat} {ret : Option FieldType} {rm : Room} {mc ms : Nat} {av : List Value} {w : Wd} {post : Option Value → Wd → Prop} (hy : plainName y.cls = true) (hlen : (lg_sl av).length ≤ maxL) {lv : List (Option Value)} (j : Nat) (hlv : lvE av ++ List.replicate j none = lv) (hll : lv.length = maxL)
    (body : ∀ X : Cx, OK X cc y.cls maxL rm → RT X w post mc ms ret → xl X = l → xG X = Γ → ((xh X).name = y.name) → V X w 0 0 0 lv []) : M0 Γ l y (ws_ y cc maxL ret) rm mc ms av w post := by
  intro sz
  refine Met.ofW (cc := cc) (maxL := maxL) (ret := ret) hy rfl ?_
  intro p e s m args below meth c s₁ B hml hv
  obtain ⟨rfl, hsz, hP, hK, hG, hGA⟩ := hv
  have hts := atoms_spec (ws := ws_ y cc maxL ret) B.pre
  have hts : ∀ w ∈ lw_all, w.before _ s = true := fun w h => hts w (List.mem_cons_of_mem _ h)
  have hown : s.vm.findClass y.cls = some m.cls := findClass_of_methodNamed B.named
  have hb := body (p, l, e, (headSpec (ws_ y cc maxL ret) rm).room, s, m, av.toArray, below, meth, c, MQ below (QR Γ w sz post) av.toArray s mc ms (wA w sz), wA w sz, (fun a e => w a = some (false, e)), Γ)
    ⟨⟨B.exec, B.bytes, hml, hown, hts⟩, hK, B.notSynchronized, fun q h => Or.inr (by rw [← hsz]; exact h), hG, hGA, fun a e h => ⟨fun z => by
      rcases z with ⟨e2, z⟩ | z
      · rw [show w a = some (false, e) from h] at z; cases z
      · have := va_at.lt (hP a _ h); have h3 : a < s.heap.size := this; rw [hsz] at h3; exact absurd z (Nat.not_le.mpr h3), va_at.lt (hP a _ h)⟩, rfl⟩
    ⟨sz, rfl, B.returns, rfl, hsz, rfl⟩ rfl rfl (name_of_methodNamed B.named B.method).1
  have hl := lv_entry av (n := maxL) hlen
  rw [lg_entry_eq]
  exact hb s.heap [] _ hP va_S.rf ⟨fun a e h => Or.inl ⟨e, h⟩, fun a e h => h⟩ (LH.ofHas hl hll (lvE_pad hlv))
section VENDS
variable {X : Cx} {w w0 : Wd} {k n pc nL mc ms : Nat} {lv lv' : List (Option Value)} {st : List Value} {cc : ByteArray} {own : String} {RM : Room} {post : Option Value → Wd → Prop}
theorem RT.q {ret : Option FieldType} (hR : RT X w0 post mc ms ret) {H : Heap} {locs : List Loc} (a : wRP (xG X) w H) (b : va_S (xA X) (xs X).heap H locs) (c : (∀ (a : Nat) (e : va_E), w a = some (true, e) → xA X a) ∧ ∀ (a : Nat) (e : va_E), w a = some (false, e) → xF X a e) {v : Option Value} (hp : post v w) : ∃ sz : Nat, xQ X = MQ (xb X) (QR (xG X) w0 sz post) (xa X) (xs X) mc ms (wA w0 sz) ∧ (∀ t : State, t.heap = H → QR (xG X) w0 sz post (xa X) (xs X) (.returned v) t) ∧ ∀ q ∈ locs, wA w0 sz q.base := by
  obtain ⟨sz, e1, -, e3, e4, e5⟩ := hR
  rw [e3] at b c
  rw [e5] at c
  exact ⟨sz, e1, fun t ht => ⟨⟨v, w, rfl, hp, by rw [ht]; exact a, c.1, c.2⟩, b.F ht⟩, b.2.2⟩
theorem v_iret {v : Int32} (hX : OK X cc own nL RM) (hd : decode cc pc = .ok (.ireturn, 1)) (hR : RT X w0 post mc ms (some .int)) (hk : k ≤ mc) (hn : n ≤ ms) (hp : post (some (.int v)) w) : V X w k n pc lv [.int v] := by
  intro H locs ls a b c d
  obtain ⟨sz, e1, h1, h2⟩ := hR.q a b c hp
  have hr : (xh X).sig.returnType = some .int := by obtain ⟨_, _, r, _⟩ := hR; exact r
  rw [e1]
  refine W.widen hk hn ?_
  exact W.iret hX.1.1 hX.1.2.1 hr (fun t ht _ => h1 t ht) h2 hd hX.2.2.1
theorem v_zret {v : Int32} {ty : FieldType} (hX : OK X cc own nL RM) (hd : decode cc pc = .ok (.ireturn, 1)) (hR : RT X w0 post mc ms (some ty)) (hk : k ≤ mc) (hn : n ≤ ms) (hv : narrow ty (.int v) = .int v) (hp : post (some (.int v)) w) : V X w k n pc lv [.int v] := by
  intro H locs ls a b c d
  obtain ⟨sz, e1, h1, h2⟩ := hR.q a b c hp
  have hr : (xh X).sig.returnType = some ty := by obtain ⟨_, _, r, _⟩ := hR; exact r
  rw [e1]
  refine W.widen hk hn ?_
  exact W.zret hX.1.1 hX.1.2.1 hr hv (fun t ht _ => h1 t ht) h2 hd hX.2.2.1
theorem v_lret {v : Int64} (hX : OK X cc own nL RM) (hd : decode cc pc = .ok (.lreturn, 1)) (hR : RT X w0 post mc ms (some .long)) (hk : k ≤ mc) (hn : n ≤ ms) (hp : post (some (.long v)) w) : V X w k n pc lv [.long v] := by
  intro H locs ls a b c d
  obtain ⟨sz, e1, h1, h2⟩ := hR.q a b c hp
  have hr : (xh X).sig.returnType = some .long := by obtain ⟨_, _, r, _⟩ := hR; exact r
  rw [e1]
  refine W.widen hk hn ?_
  exact W.lret hX.1.1 hX.1.2.1 hr (fun t ht _ => h1 t ht) h2 hd hX.2.2.1
theorem v_dret {v : UInt64} (hX : OK X cc own nL RM) (hd : decode cc pc = .ok (.dreturn, 1)) (hR : RT X w0 post mc ms (some .double)) (hk : k ≤ mc) (hn : n ≤ ms) (hp : post (some (.double v)) w) : V X w k n pc lv [.double v] := by
  intro H locs ls a b c d
  obtain ⟨sz, e1, h1, h2⟩ := hR.q a b c hp
  have hr : (xh X).sig.returnType = some .double := by obtain ⟨_, _, r, _⟩ := hR; exact r
  rw [e1]
  refine W.widen hk hn ?_
  exact W.dret hX.1.1 hX.1.2.1 hr (fun t ht _ => h1 t ht) h2 hd hX.2.2.1
theorem v_vret (hX : OK X cc own nL RM) (hd : decode cc pc = .ok (.return_, 1)) (hR : RT X w0 post mc ms none) (hk : k ≤ mc) (hn : n ≤ ms) (hp : post none w) : V X w k n pc lv [] := by
  intro H locs ls a b c d
  obtain ⟨sz, e1, h1, h2⟩ := hR.q a b c hp
  have hr : (xh X).sig.returnType = none := by obtain ⟨_, _, r, _⟩ := hR; exact r
  rw [e1]
  refine W.widen hk hn ?_
  exact W.vret hX.1.1 hX.1.2.1 hr (fun t ht _ => h1 t ht) h2 hd hX.2.2.1
theorem v_aret {v : Value} {rt : FieldType} (hX : OK X cc own nL RM) (hd : decode cc pc = .ok (.areturn, 1)) (hR : RT X w0 post mc ms (some rt)) (hk : k ≤ mc) (hn : n ≤ ms) (hrt : (∃ n, rt = .object n) ∨ ∃ t, rt = .array t) (hv : v = .null ∨ ∃ a, v = .ref a) (hp : post (some v) w) : V X w k n pc lv [v] := by
  intro H locs ls a b c d
  obtain ⟨sz, e1, h1, h2⟩ := hR.q a b c hp
  have hr : (xh X).sig.returnType = some rt := by obtain ⟨_, _, r, _⟩ := hR; exact r
  rw [e1]
  refine W.widen hk hn ?_
  exact W.aret hX.1.1 hX.1.2.1 hr hrt hv (fun t ht _ => h1 t ht) h2 hd hX.2.2.1
end VENDS
section VCALLS
variable {X : Cx} {w : Wd} {k n pc nL mc ms : Nat} {lv lv' : List (Option Value)} {st rest : List Value} {cc bytes : ByteArray} {own : String} {RM : Room} {post : Option Value → Wd → Prop} {y : MethodName} {maxL index : Nat} {ret : Option FieldType} {rm : Room} {av : List Value}
theorem RU.blind {Γ : Gm} {sz : Nat} : FrameBlind (va_Pc av (RU Γ w sz)) := by
  intro a U g mk h
  obtain ⟨q0, q1, q2, q3, q4, q5⟩ := h
  exact ⟨q0, q1, q2, va_K.moved (u := U) (U := U.calling g mk a) (Vm.Alike.refl U.vm) q3, q4, q4.2.1 _ _ _ _ _ _ q5⟩
/-- a callee's start out of V's -/
theorem w_pre (hX : OK X cc own nL RM) {H : Heap} {locs : List Loc} (a : wRP (xG X) w H) (b : va_S (xA X) (xs X).heap H locs) (c : (∀ (a : Nat) (e : va_E), w a = some (true, e) → xA X a) ∧ ∀ (a : Nat) (e : va_E), w a = some (false, e) → xF X a e) : (∀ q, wA w H.size q → xA X q) ∧ ∀ U : State, U.heap = H → (xs X).WarmedH U.vm → va_Pc av (RU (xG X) w H.size) av.toArray U := by
  have hA : ∀ q, wA w H.size q → xA X q := by
    intro q h
    rcases h with ⟨e, h⟩ | h
    · exact c.1 q e h
    · exact hX.2.2.2.1 q (Nat.le_trans b.1 h)
  refine ⟨hA, fun U hU hW => ⟨rfl, by rw [hU], by rw [hU]; exact a, va_K.moved hW.alike hX.2.1, hX.2.2.2.2.1, ?_⟩⟩
  rw [hU]
  have g := hX.2.2.2.2.1
  exact g.1 _ _ _ _ hW (g.2.2.2 _ _ _ _ hA (g.2.2.1 _ _ _ _ (fun q h1 h2 => b.2.1 q h1 h2) hX.2.2.2.2.2.1))
/-- behind a call -/
theorem w_after (hX : OK X cc own nL RM) {H : Heap} {locs : List Loc} (a : wRP (xG X) w H) (b : va_S (xA X) (xs X).heap H locs) (c : (∀ (a : Nat) (e : va_E), w a = some (true, e) → xA X a) ∧ ∀ (a : Nat) (e : va_E), w a = some (false, e) → xF X a e) {ls : Array Slot} (d : LH ls lv) {a' : Array Value}
    (hr : va_Run (xp X) (xl X) (xe X) (xR X) (xs X) (xm X) (xa X) (xb X) (xh X) (xc X) H locs k n mc ms (F0 (xm X) pc ls st) rest (QR (xG X) w H.size post a') (wA w H.size))
    (kk : ∀ (v : Option Value) (w' : Wd), post v w' → V X w' (k + mc) (n + ms) (pc + 3) lv (v.toList ++ rest)) : W (xp X) (xl X) (xe X) (xR X) (xs X) (xm X) (xa X) (xb X) (xh X) (xc X) H locs k n (xQ X) (F0 (xm X) pc ls st) := by
  obtain ⟨hA, -⟩ := w_pre (av := []) hX a b c
  intro T hT Y
  obtain ⟨v, st₀, t, T', L, h0, X', hL, e1, e2, ⟨⟨v', w', hv, hp, h1, h2, h3⟩, hz, hkp⟩, go⟩ := hr T hT Y
  cases hv
  rw [h0] at hz hkp
  obtain ⟨t2, a1, b1⟩ := kk v w' hp T'.heap (locs ++ L) ls (by rw [e1]; exact h1)
    ⟨Nat.le_trans b.1 (by rw [e1]; exact hz), fun q h4 h5 => by rw [e1, hkp q (Nat.lt_of_lt_of_le h4 b.1) (fun z => h5 (hA q z))]; exact b.2.1 q h4 h5, fun q hq => by
      rcases List.mem_append.mp hq with h | h
      · exact b.2.2 q h
      · exact hA _ (hL q h)⟩ ⟨fun x e h => hA x (h2 x e h), fun x e h => c.2 x e (h3 x e h)⟩ d T' rfl X'
  exact ⟨t2, go t2 a1, b1⟩
theorem v_callS (hX : OK X cc own nL RM) (hnl : lv.length = nL) (hd : decode cc pc = .ok (.invokestatic index, 3)) (hM : M0 (xG X) (xl X) y (ws_ y bytes maxL ret) rm mc ms av w post) (q1 : Cond.methodLink own index y ∈ lw_all) (q2 : Cond.static y ∈ lw_all) (q3 : Cond.initialized y.cls ∈ lw_all) (q4 : Cond.code y bytes maxL ret ∈ lw_all) (hm : rm.cells = mc ∧ rm.slots = ms) (hy : y.cls ≠ "java/lang/invoke/MethodHandle" ∧ y.cls ≠ "java/lang/invoke/VarHandle" ∧ (parseMethodDescriptor y.desc).map (fun d => d.parameters.length) = some av.length)
    (hR : rm.frames + 1 ≤ RM.frames ∧ 8 + (maxL + 11) + rm.locals ≤ RM.locals) (hst : av.reverse ++ rest = st) (hc8 : (rest.map fun v => v.category).sum ≤ 8) (hf : k + mc ≤ RM.cells ∧ n + ms ≤ RM.slots)
    (kk : ∀ (v : Option Value) (w' : Wd), post v w' → V X w' (k + mc) (n + ms) (pc + 3) lv (v.toList ++ rest)) : V X w k n pc lv st := by
  intro H locs ls a b c d
  obtain ⟨hA, hU⟩ := w_pre (av := av) hX a b c
  subst hst
  have hRM : xR X = RM := hX.2.2.2.2.2.2.2
  rw [← hRM] at hR hf
  refine w_after hX a b c d (va_runS (As := av) (rest := rest) hX.1 (hM H.size) (va_cwS av.length hX.1.2.2.2.2 (lw_S q1 q2 q3 q4) rfl hm.1 hm.2 ⟨hy.1, hy.2.1, hy.2.2⟩ hR) ⟨RU.blind, hU⟩ rfl rfl (d.1.trans hnl) rfl ?_ hd hf) kk
  exact lv_room hc8
theorem v_callV {ci x N : Nat} {T : u_T} {t : Bool} {fs : List Value} {C : String} (hX : OK X cc own nL RM) (hnl : lv.length = nL) (hd : decode cc pc = .ok (.invokevirtual index, 3)) (hM : M0 (xG X) (xl X) y (ws_ y bytes maxL ret) rm mc ms (.ref x :: av) w post) (hc : vwCl[ci]? = some (C, T, N)) (he : w x = some (t, .inr (ci, fs))) (q1 : Cond.methodLink own index y ∈ lw_all) (q2 : Cond.instanceMethod y ∈ lw_all) (q3 : Cond.selects C y y ∈ lw_all) (q4 : Cond.initialized C ∈ lw_all) (q5 : Cond.code y bytes maxL ret ∈ lw_all) (hm : rm.cells = mc ∧ rm.slots = ms) (hy : y.cls = C ∧ y.cls ≠ "java/lang/invoke/MethodHandle" ∧ y.cls ≠ "java/lang/invoke/VarHandle" ∧ (parseMethodDescriptor y.desc).map (fun d => d.parameters.length) = some av.length)
    (hR : rm.frames + 1 ≤ RM.frames ∧ 8 + (maxL + 11) + rm.locals ≤ RM.locals) (hst : av.reverse ++ .ref x :: rest = st) (hc8 : (rest.map fun v => v.category).sum ≤ 8) (hf : k + mc ≤ RM.cells ∧ n + ms ≤ RM.slots)
    (kk : ∀ (v : Option Value) (w' : Wd), post v w' → V X w' (k + mc) (n + ms) (pc + 3) lv (v.toList ++ rest)) : V X w k n pc lv st := by
  intro H locs ls a b c d
  obtain ⟨hA, hU⟩ := w_pre (av := .ref x :: av) hX a b c
  subst hst
  have hRM : xR X = RM := hX.2.2.2.2.2.2.2
  rw [← hRM] at hR hf
  refine w_after hX a b c d (va_runV (As := av) (rest := rest) hX.1 (hM H.size) (cwV av.length hX.1.2.2.2.2 (lw_V q1 q2 q3 q4 q5) rfl hm.1 hm.2 hy hR) ⟨RU.blind, va_recv hX.2.1 (w_one a he) hc (q0 := 0) rfl, hU⟩ rfl rfl (d.1.trans hnl) rfl ?_ hd hf) kk
  exact lv_room hc8
theorem v_callI {x : Nat} (hX : OK X cc own nL RM) (hnl : lv.length = nL) (hd : decode cc pc = .ok (.invokespecial index, 3)) (hM : M0 (xG X) (xl X) y (ws_ y bytes maxL none) rm mc ms (.ref x :: av) w post) (q1 : Cond.methodLink own index y ∈ lw_all) (q2 : Cond.instanceMethod y ∈ lw_all) (q4 : Cond.initialized y.cls ∈ lw_all) (q5 : Cond.code y bytes maxL none ∈ lw_all) (hy1 : y.name = "<init>") (hm : rm.cells = mc ∧ rm.slots = ms) (hy : y.cls ≠ "java/lang/invoke/MethodHandle" ∧ y.cls ≠ "java/lang/invoke/VarHandle" ∧ (parseMethodDescriptor y.desc).map (fun d => d.parameters.length) = some av.length)
    (hR : rm.frames + 1 ≤ RM.frames ∧ 8 + (maxL + 11) + rm.locals ≤ RM.locals) (hst : av.reverse ++ .ref x :: rest = st) (hc8 : (rest.map fun v => v.category).sum ≤ 8) (hf : k + mc ≤ RM.cells ∧ n + ms ≤ RM.slots)
    (kk : ∀ (v : Option Value) (w' : Wd), post v w' → V X w' (k + mc) (n + ms) (pc + 3) lv (v.toList ++ rest)) : V X w k n pc lv st := by
  intro H locs ls a b c d
  obtain ⟨hA, hU⟩ := w_pre (av := .ref x :: av) hX a b c
  subst hst
  have hRM : xR X = RM := hX.2.2.2.2.2.2.2
  rw [← hRM] at hR hf
  refine w_after hX a b c d (va_runI (As := av) (rest := rest) hX.1 (hM H.size) (cwI av.length hX.1.2.2.2.2 (lw_meth q5) rfl hm.1 hm.2 (hX.1.2.2.2.2 _ q4) (hX.1.2.2.2.2 _ q1) (hX.1.2.2.2.2 _ q2) hy1 hy hR) ⟨RU.blind, hU⟩ rfl rfl (d.1.trans hnl) rfl ?_ hd hf) kk
  exact lv_room hc8
end VCALLS
/-- a truth as an int -/
def bi (p : Prop) [Decidable p] : Int32 := if p then 1 else 0
theorem bi_t {p : Prop} [Decidable p] (h : p) : bi p = 1 := if_pos h
theorem bi_f {p : Prop} [Decidable p] (h : ¬ p) : bi p = 0 := if_neg h
theorem bi_0 {p : Prop} [Decidable p] : bi p = 0 ↔ ¬ p := by
  unfold bi; split <;> simp_all
theorem bi_n0 {p : Prop} [Decidable p] : ¬ bi p = 0 ↔ p := by
  unfold bi; split <;> simp_all
theorem bi_nar {p : Prop} [Decidable p] : narrow .boolean (.int (bi p)) = .int (bi p) := by
  unfold bi; split <;> rfl
theorem bi_iff {p q : Prop} [Decidable p] [Decidable q] (h : p ↔ q) : bi p = bi q := by
  unfold bi; split <;> split <;> simp_all
abbrev rl (L c s : Nat) : Room := ⟨L, c, s, 60 * L⟩
/-- a callee's own words -/
def CF (C : String) (y : MethodName) (bytes : ByteArray) (maxL : Nat) (ret : Option FieldType) (na : Nat) : Prop := Cond.instanceMethod y ∈ lw_all ∧ Cond.selects C y y ∈ lw_all ∧ Cond.initialized C ∈ lw_all ∧ Cond.code y bytes maxL ret ∈ lw_all ∧ (y.cls = C ∧ y.cls ≠ "java/lang/invoke/MethodHandle" ∧ y.cls ≠ "java/lang/invoke/VarHandle" ∧ (parseMethodDescriptor y.desc).map (fun d => d.parameters.length) = some na)
def CS (y : MethodName) (bytes : ByteArray) (maxL : Nat) (ret : Option FieldType) (na : Nat) : Prop := Cond.static y ∈ lw_all ∧ Cond.initialized y.cls ∈ lw_all ∧ Cond.code y bytes maxL ret ∈ lw_all ∧ (y.cls ≠ "java/lang/invoke/MethodHandle" ∧ y.cls ≠ "java/lang/invoke/VarHandle" ∧ (parseMethodDescriptor y.desc).map (fun d => d.parameters.length) = some na)
/-- a contract that changes nothing and answers r -/
abbrev MRd (Γ : Gm) (l : Launch) (y : MethodName) (ws : List Cond) (rm : Room) (av : List Value) (w : Wd) (r : Value) : Prop := M0 Γ l y ws rm 0 0 av w (fun v w' => v = some r ∧ w' = w)
section VCALL2
variable {X : Cx} {w : Wd} {k n pc nL : Nat} {lv lv' : List (Option Value)} {st rest : List Value} {cc bytes : ByteArray} {own : String} {RM : Room} {y : MethodName} {maxL index na : Nat} {ret : Option FieldType} {rm : Room} {av : List Value} {r : Value} {p : Prop}
theorem v_ifb_eq [Decidable p] {off : Int} {tgt : Nat} (hX : OK X cc own nL RM) (hd : decode cc pc = .ok (.ifCond .eq off, 3)) (ht : (pc : Int) + off = (tgt : Int)) (kt : ¬ p → V X w k n tgt lv st) (kf : p → V X w k n (pc + 3) lv st) : V X w k n pc lv (.int (bi p) :: st) := v_if_eq hX hd ht (fun h => kt (bi_0.mp h)) (fun h => kf (bi_n0.mp h))
theorem v_ifb_ne [Decidable p] {off : Int} {tgt : Nat} (hX : OK X cc own nL RM) (hd : decode cc pc = .ok (.ifCond .ne off, 3)) (ht : (pc : Int) + off = (tgt : Int)) (kt : p → V X w k n tgt lv st) (kf : ¬ p → V X w k n (pc + 3) lv st) : V X w k n pc lv (.int (bi p) :: st) := v_if_ne hX hd ht (fun h => kt (bi_n0.mp h)) (fun h => kf (bi_0.mp h))
theorem v_ifl_eq {x y : Int64} {off : Int} {tgt : Nat} (hX : OK X cc own nL RM) (hd : decode cc pc = .ok (.ifCond .eq off, 3)) (ht : (pc : Int) + off = (tgt : Int)) (kt : x = y → V X w k n tgt lv st) (kf : ¬ x = y → V X w k n (pc + 3) lv st) : V X w k n pc lv (.int (lg_cmp x y) :: st) := v_if_eq hX hd ht (fun h => kt ((lg_cmp_eq x y).mp h)) (fun h => kf (fun q => h ((lg_cmp_eq x y).mpr q)))
theorem v_ifl_ne {x y : Int64} {off : Int} {tgt : Nat} (hX : OK X cc own nL RM) (hd : decode cc pc = .ok (.ifCond .ne off, 3)) (ht : (pc : Int) + off = (tgt : Int)) (kt : ¬ x = y → V X w k n tgt lv st) (kf : x = y → V X w k n (pc + 3) lv st) : V X w k n pc lv (.int (lg_cmp x y) :: st) := v_if_ne hX hd ht (fun h => kt (fun q => h ((lg_cmp_eq x y).mpr q))) (fun h => kf ((lg_cmp_eq x y).mp h))
theorem v_ifl_lt {x y : Int64} {off : Int} {tgt : Nat} (hX : OK X cc own nL RM) (hd : decode cc pc = .ok (.ifCond .lt off, 3)) (ht : (pc : Int) + off = (tgt : Int)) (kt : x < y → V X w k n tgt lv st) (kf : ¬ x < y → V X w k n (pc + 3) lv st) : V X w k n pc lv (.int (lg_cmp x y) :: st) := v_if_lt hX hd ht (fun h => kt ((lg_cmp_lt x y).mp h)) (fun h => kf (fun q => h ((lg_cmp_lt x y).mpr q)))
theorem v_ifl_ge {x y : Int64} {off : Int} {tgt : Nat} (hX : OK X cc own nL RM) (hd : decode cc pc = .ok (.ifCond .ge off, 3)) (ht : (pc : Int) + off = (tgt : Int)) (kt : y ≤ x → V X w k n tgt lv st) (kf : ¬ y ≤ x → V X w k n (pc + 3) lv st) : V X w k n pc lv (.int (lg_cmp x y) :: st) := v_if_ge hX hd ht (fun h => kt ((lg_cmp_ge x y).mp h)) (fun h => kf (fun q => h ((lg_cmp_ge x y).mpr q)))
theorem v_ifl_gt {x y : Int64} {off : Int} {tgt : Nat} (hX : OK X cc own nL RM) (hd : decode cc pc = .ok (.ifCond .gt off, 3)) (ht : (pc : Int) + off = (tgt : Int)) (kt : y < x → V X w k n tgt lv st) (kf : ¬ y < x → V X w k n (pc + 3) lv st) : V X w k n pc lv (.int (lg_cmp x y) :: st) := v_if_gt hX hd ht (fun h => kt ((lg_cmp_gt x y).mp h)) (fun h => kf (fun q => h ((lg_cmp_gt x y).mpr q)))
theorem v_ifl_le {x y : Int64} {off : Int} {tgt : Nat} (hX : OK X cc own nL RM) (hd : decode cc pc = .ok (.ifCond .le off, 3)) (ht : (pc : Int) + off = (tgt : Int)) (kt : x ≤ y → V X w k n tgt lv st) (kf : ¬ x ≤ y → V X w k n (pc + 3) lv st) : V X w k n pc lv (.int (lg_cmp x y) :: st) := v_if_le hX hd ht (fun h => kt ((lg_cmp_le x y).mp h)) (fun h => kf (fun q => h ((lg_cmp_le x y).mpr q)))
theorem v_callSr (hX : OK X cc own nL RM) (hnl : lv.length = nL) (hd : decode cc pc = .ok (.invokestatic index, 3)) (q1 : Cond.methodLink own index y ∈ lw_all) (cs : CS y bytes maxL ret na) (hM : MRd (xG X) (xl X) y (ws_ y bytes maxL ret) rm av w r) (hna : av.length = na) (hm : rm.cells = 0 ∧ rm.slots = 0) (hR : rm.frames + 1 ≤ RM.frames ∧ 8 + (maxL + 11) + rm.locals ≤ RM.locals) (hst : av.reverse ++ rest = st) (hc8 : (rest.map fun v => v.category).sum ≤ 8) (hf : k ≤ RM.cells ∧ n ≤ RM.slots) (kk : V X w k n (pc + 3) lv (r :: rest)) : V X w k n pc lv st :=
  v_callS hX hnl hd hM q1 cs.1 cs.2.1 cs.2.2.1 hm (by rw [hna]; exact cs.2.2.2) hR hst hc8 hf (fun v w' h => by obtain ⟨rfl, rfl⟩ := h; exact kk)
end VCALL2
