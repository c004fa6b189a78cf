/-! more rows: private members of nest mates, casts, arrays of objects, interfaces -/
set_option maxRecDepth 100000
/-- the words of the tables that no steady reader carries, and that we carry in G -/
def gtw (c : Cond) : Bool := match c with
  | .fieldLinkNest .. => true
  | .methodLinkNest .. => true
  | .castable .. => true
  | _ => false
def yIt_hasNext : MethodName := ⟨"java/util/Iterator", "hasNext", "()Z"⟩
def yIt_next : MethodName := ⟨"java/util/Iterator", "next", "()Ljava/lang/Object;"⟩
def yCs_length : MethodName := ⟨"java/lang/CharSequence", "length", "()I"⟩
def yCs_charAt : MethodName := ⟨"java/lang/CharSequence", "charAt", "(I)C"⟩
def yPo_key : MethodName := ⟨"BakeryPlan$Policy", "key", "(LBakeryPlan$Day;I)I"⟩
def yPo_name : MethodName := ⟨"BakeryPlan$Policy", "name", "()Ljava/lang/CharSequence;"⟩
/-- the calls through interfaces: the class, the method named, the method run -/
def gF : List (String × MethodName × MethodName) := [(RJ22, yIt_hasNext, yJ22_hasNext), (RJ22, yIt_next, yJ22_next), (RJ9, yCs_length, yJ9_length), (RJ9, yCs_charAt, yJ9_charAt),
  (RX5, yX4_isBetter, yX4_isBetter), (RX6, yX4_isBetter, yX4_isBetter), (RX7, yX4_isBetter, yX4_isBetter), (RX5, yX4_isNamed, yX4_isNamed), (RX6, yX4_isNamed, yX4_isNamed), (RX7, yX4_isNamed, yX4_isNamed),
  (RX5, yPo_key, yX5_key), (RX6, yPo_key, yX6_key), (RX7, yPo_key, yX7_key), (RX5, yPo_name, yX5_name), (RX6, yPo_name, yX6_name), (RX7, yPo_name, yX7_name)]
/-- the calls through an interface that land in a default method -/
def gL : List (String × MethodName) := [(RX5, yX4_isBetter), (RX6, yX4_isBetter), (RX7, yX4_isBetter), (RX5, yX4_isNamed), (RX6, yX4_isNamed), (RX7, yX4_isNamed)]
def gN (U : State) : Prop := (∀ c ∈ lw_tbl, gtw c = true → va_Nw c U) ∧ va_AO "java/lang/Object" U ∧ (∀ q ∈ gF, va_Fw q.1 q.2.1 q.2.2 U) ∧ ∀ q ∈ gL, va_Nw (.landsInDefault q.1 q.2 q.2) U
theorem va_Nl {C : String} {x y : MethodName} {u U : State} {A A' : Array Value} (h : u.vm = U.vm) (hb : (Cond.landsInDefault C x y).before A u = true) : (Cond.landsInDefault C x y).before A' U = true := by
  simp only [Cond.before, Cond.holds, Cond.value, State.methodFound?, State.methodNamed?] at hb ⊢
  rw [← h]
  exact hb
theorem va_Nw.warmL {C : String} {x y : MethodName} {s U : State} (hA : s.vm.Alike U.vm) (hZ : va_Nw (.landsInDefault C x y) s) : va_Nw (.landsInDefault C x y) U := va_Nl (rfl : (s.setVm U.vm).vm = U.vm) ((Cond.landsInDefault_setVm (args := #[]) (args' := #[]) hA (State.methodFound?_setVm hA _ _ _)).trans hZ)
theorem gF_ok : ∀ q ∈ gF, q.2.1.cls ≠ "java/lang/invoke/MethodHandle" ∧ q.2.1.cls ≠ "java/lang/invoke/VarHandle" := by decide +kernel
theorem gN.warm {s U : State} (hW : s.WarmedH U.vm) (h : gN s) : gN U := by
  refine ⟨fun c hc ht => ?_, va_AO.moved hW.alike h.2.1, fun q hq => va_Fw.moved (gF_ok q hq) hW.alike (h.2.2.1 q hq), fun q hq => va_Nw.warmL hW.alike (h.2.2.2 q hq)⟩
  have h1 := h.1 c hc ht
  cases c <;> first | (cases ht; done) | exact va_Nw.warmF hW h1 | exact va_Nw.warmM hW h1 | exact va_Nw.warmC hW h1
theorem gN.same {s U : State} (e : s.vm = U.vm) (h : gN s) : gN U := by
  have hA : s.vm.Alike U.vm := by rw [e]; exact Vm.Alike.refl U.vm
  refine ⟨fun c hc ht => ?_, va_AO.moved hA h.2.1, fun q hq => va_Fw.moved (gF_ok q hq) hA (h.2.2.1 q hq), fun q hq => va_Nw.warmL hA (h.2.2.2 q hq)⟩
  have h1 := h.1 c hc ht
  cases c <;> first | (cases ht; done) | exact va_Nw.same rfl e h1
/-- the facts of Γ bear gN -/
def gC (Γ : Gm) : Prop := ∀ (A : Nat → Prop) (U : State) (H : Heap), Γ.2.2 A U H → gN U
section V2
variable {X : Cx} {w : Wd} {k n pc nL : Nat} {lv lv' : List (Option Value)} {st rest : List Value} {cc bytes : ByteArray} {own : String} {RM : Room}
theorem OK.gn (hX : OK X cc own nL RM) (hg : gC (xG X)) : gN (xs X) := hg _ _ _ hX.2.2.2.2.2.1
theorem OK.nw (hX : OK X cc own nL RM) (hg : gC (xG X)) {c : Cond} (hc : c ∈ lw_tbl) (ht : gtw c = true) : va_Nw c (xs X) := (hX.gn hg).1 c hc ht
theorem v_getM {ref C host : String} {T : u_T} {N ci index x : Nat} {fs : List Value} {v : Value} {t : Bool} (hX : OK X cc own nL RM) (hd : decode cc pc = .ok (.getfield index, 3)) (hg : gC (xG X)) (hin : ∀ w ∈ u_ws C T N, w ∈ lw_all) (hc : vwCl[ci]? = some (C, T, N)) (j : Nat) (hj : j < N) (hlink : Cond.fieldLinkNest own index ref (T j).2.1 (T j).2.2.1 host ∈ lw_tbl) (hsame : ∀ x, (xs X).fieldFound? (T j).1 (T j).2.1 (T j).2.2.1 = some x → (xs X).fieldFound? ref (T j).2.1 (T j).2.2.1 = some x) (he : w x = some (t, .inr (ci, fs))) (hv : fs[j]? = some v) (kk : V X w k n (pc + 3) lv (v :: st)) : V X w k n pc lv (.ref x :: st) :=
  v_getN (host := host) hX hd hin hc j hj (va_Nw.use rfl (hX.nw hg hlink rfl)) hsame he hv kk
theorem v_putM {ref C host : String} {T : u_T} {N ci index x : Nat} {fs : List Value} {v : Value} {ty : FieldType} (hX : OK X cc own nL RM) (hd : decode cc pc = .ok (.putfield index, 3)) (hg : gC (xG X)) (hin : ∀ w ∈ u_ws C T N, w ∈ lw_all) (ty0 : Nat → FieldType) (hty : ∀ k, k < N → parseFieldDescriptor (T k).2.2.1 = some (ty0 k)) (hnm : ∀ a, a < N → ∀ b, b < N → a ≠ b → (T a).2.1 ≠ (T b).2.1) (hc : vwCl[ci]? = some (C, T, N)) (j : Nat) (hj : j < N) (hlink : Cond.fieldLinkNest own index ref (T j).2.1 (T j).2.2.1 host ∈ lw_tbl) (hsame : ∀ x, (xs X).fieldFound? (T j).1 (T j).2.1 (T j).2.2.1 = some x → (xs X).fieldFound? ref (T j).2.1 (T j).2.2.1 = some x) (hfin : (T j).2.2.2 = false) (hp : parseFieldDescriptor (T j).2.2.1 = some ty) (hn : narrow ty v = v) (hfit : fits ty v = true) (he : w x = some (true, .inr (ci, fs))) (hl : j < fs.length) (kk : V X (wup w x (true, .inr (ci, fs.set j v))) k n (pc + 3) lv st) : V X w k n pc lv (v :: .ref x :: st) :=
  v_putN (host := host) hX hd hin ty0 hty hnm hc j hj (va_Nw.use rfl (hX.nw hg hlink rfl)) hsame hfin hp hn hfit he hl kk
/-- a cast to the object's own class -/
theorem v_chk {nm : String} {T : u_T} {N ci index x : Nat} {fs : List Value} {t : Bool} (hX : OK X cc own nL RM) (hd : decode cc pc = .ok (.checkcast index, 3)) (hlink : Cond.classLink own index nm ∈ lw_all) (hc : vwCl[ci]? = some (nm, T, N)) (he : w x = some (t, .inr (ci, fs))) (kk : V X w k n (pc + 3) lv (.ref x :: st)) : V X w k n pc lv (.ref x :: st) :=
  fun H locs ls a b c d => va_castE hX.1.1 hX.1.2.1 hX.1.2.2.2.1 (hX.1.2.2.2.2 _ hlink) (va_recv hX.2.1 (w_one a he) hc (q0 := 0) rfl) hd (kk H locs ls a b c d)
theorem v_chkN {index : Nat} (hX : OK X cc own nL RM) (hd : decode cc pc = .ok (.checkcast index, 3)) (kk : V X w k n (pc + 3) lv (.null :: st)) : V X w k n pc lv (.null :: st) :=
  fun H locs ls a b c d => lv_castN hX.1.1 hX.1.2.1 hd (kk H locs ls a b c d)
/-- the world's list with a cell that may only be read put behind it -/
theorem v_aast {C : String} {T : u_T} {N' ci x v N : Nat} {fs : List Value} {f : Nat → Option Nat} {i : Int32} (hX : OK X cc own nL RM) (hd : decode cc pc = .ok (.aastore, 1)) (hg : gC (xG X)) (he : w x = some (true, .inl ((xG X).2.1 6, N, .inr (.inr (.inr (.inr f)))))) (hc : vwCl[ci]? = some (C, T, N')) (hca : Cond.castable C "java/lang/Object" ∈ lw_tbl) (hv : w v = some (true, .inr (ci, fs))) (hi : vp_in i N) (kk : V X (wup w x (true, .inl ((xG X).2.1 6, N, .inr (.inr (.inr (.inr (va_up f i.toNatClampNeg (some v)))))))) k n (pc + 1) lv st) : V X w k n pc lv (.ref v :: .int i :: .ref x :: st) := by
  intro H locs ls a b c d
  obtain ⟨hP, hD⟩ := w_lst a c
  obtain ⟨q0, hq⟩ := w_at a he
  obtain ⟨q1, hq1⟩ := w_at a hv
  refine va_astqO (E := "java/lang/Object") hX.1.1 hX.1.2.1 hX.2.1 hP hD b q0 6 q1 ci hq rfl (hX.nw hg hca rfl) hq1 hc hi hd (fun H1 locs1 hP1 hD1 hS1 => ?_)
  obtain ⟨r1, r2⟩ := w_back a b hS1 c hX.2.2.2.2.2.2.1 he hq hP1
  exact kk H1 locs1 ls r1 hS1 r2 d
theorem v_aastN {x N : Nat} {f : Nat → Option Nat} {i : Int32} (hX : OK X cc own nL RM) (hd : decode cc pc = .ok (.aastore, 1)) (he : w x = some (true, .inl ((xG X).2.1 6, N, .inr (.inr (.inr (.inr f)))))) (hi : vp_in i N) (kk : V X (wup w x (true, .inl ((xG X).2.1 6, N, .inr (.inr (.inr (.inr (va_up f i.toNatClampNeg none))))))) k n (pc + 1) lv st) : V X w k n pc lv (.null :: .int i :: .ref x :: st) := by
  intro H locs ls a b c d
  obtain ⟨hP, hD⟩ := w_lst a c
  obtain ⟨q0, hq⟩ := w_at a he
  refine va_astqN (C := "java/lang/Object") hX.1.1 hX.1.2.1 hX.2.1 hP hD b q0 6 hq rfl hi hd (fun H1 locs1 hP1 hD1 hS1 => ?_)
  obtain ⟨r1, r2⟩ := w_back a b hS1 c hX.2.2.2.2.2.2.1 he hq hP1
  exact kk H1 locs1 ls r1 hS1 r2 d
theorem v_anew {index N : Nat} {j : Int32} (hX : OK X cc own nL RM) (hd : decode cc pc = .ok (.anewarray index, 3)) (hg : gC (xG X)) (hcl : Cond.classLink own index "java/lang/Object" ∈ lw_all) (hj : ¬ j < 0) (hN : j.toNatClampNeg = N) (hbytes : N * 4 ≤ 536870912) (hk : k + 1 ≤ RM.cells) (hn : n + N ≤ RM.slots) (kk : ∀ q : Nat, w q = none → V X (wup w q (true, .inl ((xG X).2.1 6, N, .inr (.inr (.inr (.inr (fun _ => none))))))) (k + 1) (n + N) (pc + 3) lv (.ref q :: st)) : V X w k n pc lv (.int j :: st) := by
  intro H locs ls a b c d
  obtain ⟨hP, hD⟩ := w_lst a c
  refine va_newq hX.1.1 hX.1.2.1 hX.1.2.2.2.1 (hX.1.2.2.2.2 _ hcl) (hX.gn hg).2.1 hX.2.1 hP hD b hX.2.2.2.1 hj hN hbytes (by rw [hX.2.2.2.2.2.2.2]; exact hk) (by rw [hX.2.2.2.2.2.2.2]; exact hn) hd (fun q cA H1 hK1 hP1 hD1 hS1 => ?_)
  have hcA := w_same hK1 hX.2.1 (i := 6) rfl
  subst hcA
  obtain ⟨r0, r1, r2⟩ := w_more a b hS1 c hX.2.2.2.2.2.2.1 hP1 hD1
  exact kk q r0 H1 locs ls r1 hS1 r2 d
theorem q_sys : Cond.initialized "java/lang/System" ∈ lw_all := by
  exact q139
theorem q_acs : Cond.static arraycopyName ∈ lw_all ∧ Cond.native arraycopyName ∈ lw_all := ⟨q306, q307⟩
/-- arraycopy of ints, bytes -/
theorem v_copyp {x y index n0 n1 ti : Nat} {ty : FieldType} {f g : Nat → Int32} {sp dp m : Int32} (hX : OK X cc own nL RM) (hnl : lv.length = nL) (hd : decode cc pc = .ok (.invokestatic index, 3)) (hlink : Cond.methodLink own index arraycopyName ∈ lw_all) (hty : (wty (xG X))[ti]? = some ((xG X).2.1 ti, ty)) (hpr : refKind ty = false) (hx : w x = some (true, .inl ((xG X).2.1 ti, n0, .inl f))) (hy : w y = some (true, .inl ((xG X).2.1 ti, n1, .inl g))) (h1 : ¬ sp < 0) (h2 : ¬ dp < 0) (h3 : ¬ m < 0) (h4 : sp.toNatClampNeg + m.toNatClampNeg ≤ n0) (h5 : dp.toNatClampNeg + m.toNatClampNeg ≤ n1) (hfit : ∀ i, i < m.toNatClampNeg → fits ty (.int (f (sp.toNatClampNeg + i))) = true) (hfr : 1 ≤ RM.frames) (hlo : (st.map fun v => v.category).sum + (nativeFrameWords "java/lang/System" "arraycopy" 5 + 11) ≤ RM.locals) (kk : V X (wup w y (true, .inl ((xG X).2.1 ti, n1, .inl (va_cpy f g sp.toNatClampNeg dp.toNatClampNeg m.toNatClampNeg)))) k n (pc + 3) lv st) : V X w k n pc lv (.int m :: .int dp :: .ref y :: .int sp :: .ref x :: st) := by
  intro H locs ls a b c d
  obtain ⟨hP, hD⟩ := w_lst a c
  obtain ⟨q0, hq⟩ := w_at a hx
  obtain ⟨q1, hq1⟩ := w_at a hy
  have hRM : xR X = RM := hX.2.2.2.2.2.2.2
  rw [← hRM] at hfr hlo
  refine va_copyi hX.1.1 hX.1.2.1 (hX.1.2.2.1.trans ((d.1.trans hnl).symm)) hX.1.2.2.2.1 (hX.1.2.2.2.2 _ hlink) (hX.1.2.2.2.2 _ q_acs.2) (hX.1.2.2.2.2 _ q_acs.1) (hX.1.2.2.2.2 _ q_sys) hX.2.1 hP hD b q0 q1 ti ti hq hq1 hty hty hpr h1 h2 h3 h4 h5 hfit hfr hlo hd (fun H1 locs1 hP1 hD1 hS1 => ?_)
  obtain ⟨r1, r2⟩ := w_back a b hS1 c hX.2.2.2.2.2.2.1 hy hq1 hP1
  exact kk H1 locs1 ls r1 hS1 r2 d
/-- arraycopy of references to objects of one class -/
theorem v_copyq {C : String} {T : u_T} {N' ci x y index n0 n1 : Nat} {f g : Nat → Option Nat} {sp dp m : Int32} (hX : OK X cc own nL RM) (hnl : lv.length = nL) (hd : decode cc pc = .ok (.invokestatic index, 3)) (hg : gC (xG X)) (hlink : Cond.methodLink own index arraycopyName ∈ lw_all) (hx : w x = some (true, .inl ((xG X).2.1 6, n0, .inr (.inr (.inr (.inr f)))))) (hy : w y = some (true, .inl ((xG X).2.1 6, n1, .inr (.inr (.inr (.inr g)))))) (hc : vwCl[ci]? = some (C, T, N')) (hca : Cond.castable C "java/lang/Object" ∈ lw_tbl) (hel : ∀ i : Nat, i < m.toNatClampNeg → ∀ z : Nat, f (sp.toNatClampNeg + i) = some z → ∃ (t : Bool) (fs : List Value), w z = some (t, .inr (ci, fs))) (h1 : ¬ sp < 0) (h2 : ¬ dp < 0) (h3 : ¬ m < 0) (h4 : sp.toNatClampNeg + m.toNatClampNeg ≤ n0) (h5 : dp.toNatClampNeg + m.toNatClampNeg ≤ n1) (hfr : 1 ≤ RM.frames) (hlo : (st.map fun v => v.category).sum + (nativeFrameWords "java/lang/System" "arraycopy" 5 + 11) ≤ RM.locals) (kk : V X (wup w y (true, .inl ((xG X).2.1 6, n1, .inr (.inr (.inr (.inr (va_cpy f g sp.toNatClampNeg dp.toNatClampNeg m.toNatClampNeg))))))) k n (pc + 3) lv st) : V X w k n pc lv (.int m :: .int dp :: .ref y :: .int sp :: .ref x :: st) := by
  intro H locs ls a b c d
  obtain ⟨hP, hD⟩ := w_lst a c
  obtain ⟨q0, hq⟩ := w_at a hx
  obtain ⟨q1, hq1⟩ := w_at a hy
  have hRM : xR X = RM := hX.2.2.2.2.2.2.2
  rw [← hRM] at hfr hlo
  refine va_copyq (C := C) (E0 := "java/lang/Object") (E1 := "java/lang/Object") hX.1.1 hX.1.2.1 (hX.1.2.2.1.trans ((d.1.trans hnl).symm)) hX.1.2.2.2.1 (hX.1.2.2.2.2 _ hlink) (hX.1.2.2.2.2 _ q_acs.2) (hX.1.2.2.2.2 _ q_acs.1) (hX.1.2.2.2.2 _ q_sys) hX.2.1 hP hD b q0 q1 6 6 hq hq1 rfl rfl h1 h2 h3 h4 h5 (fun i hi z hz => ?_) (fun comp c0 => vb_asgC (hX.nw hg hca rfl) comp c0) hfr hlo hd (fun H1 locs1 hP1 hD1 hS1 => ?_)
  · obtain ⟨t, fs, hz2⟩ := hel i hi z hz
    exact va_recv hX.2.1 (w_one a hz2) hc (q0 := 0) rfl
  obtain ⟨r1, r2⟩ := w_back a b hS1 c hX.2.2.2.2.2.2.1 hy hq1 hP1
  exact kk H1 locs1 ls r1 hS1 r2 d
end V2
section V2C
variable {X : Cx} {w : Wd} {k n pc nL mc ms : Nat} {lv lv' : List (Option Value)} {st rest : List Value} {cc bytes : ByteArray} {own : String} {RM : Room} {post : Option Value → Wd → Prop} {y : MethodName} {maxL index : Nat} {ret : Option FieldType} {rm : Room} {av : List Value}
/-- the callee's words of a call -/
abbrev CR (y : MethodName) (maxL : Nat) (rm RM : Room) (k n mc ms na : Nat) : Prop := (rm.cells = mc ∧ rm.slots = ms) ∧ (y.cls ≠ "java/lang/invoke/MethodHandle" ∧ y.cls ≠ "java/lang/invoke/VarHandle" ∧ (parseMethodDescriptor y.desc).map (fun d => d.parameters.length) = some na) ∧ (rm.frames + 1 ≤ RM.frames ∧ 8 + (maxL + 11) + rm.locals ≤ RM.locals) ∧ k + mc ≤ RM.cells ∧ n + ms ≤ RM.slots
theorem v_callSN {host : String} (hX : OK X cc own nL RM) (hnl : lv.length = nL) (hd : decode cc pc = .ok (.invokestatic index, 3)) (hg : gC (xG X)) (hM : M0 (xG X) (xl X) y (ws_ y bytes maxL ret) rm mc ms av w post) (q1 : Cond.methodLinkNest own index y host ∈ lw_tbl) (q2 : Cond.static y ∈ lw_all) (q3 : Cond.initialized y.cls ∈ lw_all) (q4 : Cond.code y bytes maxL ret ∈ lw_all) (hm : rm.cells = mc ∧ rm.slots = ms) (hy : y.cls ≠ "java/lang/invoke/MethodHandle" ∧ y.cls ≠ "java/lang/invoke/VarHandle" ∧ (parseMethodDescriptor y.desc).map (fun d => d.parameters.length) = some av.length)
    (hR : rm.frames + 1 ≤ RM.frames ∧ 8 + (maxL + 11) + rm.locals ≤ RM.locals) (hst : av.reverse ++ rest = st) (hc8 : (rest.map fun v => v.category).sum ≤ 8) (hf : k + mc ≤ RM.cells ∧ n + ms ≤ RM.slots)
    (kk : ∀ (v : Option Value) (w' : Wd), post v w' → V X w' (k + mc) (n + ms) (pc + 3) lv (v.toList ++ rest)) : V X w k n pc lv st := by
  intro H locs ls a b c d
  obtain ⟨hA, hU⟩ := w_pre (av := av) hX a b c
  subst hst
  have hRM : xR X = RM := hX.2.2.2.2.2.2.2
  rw [← hRM] at hR hf
  refine w_after hX a b c d (va_runSN (As := av) (rest := rest) hX.1 (hM H.size) ⟨va_cnB av.length hX.1.2.2.2.2 (lw_meth q4) rfl hm.1 hm.2 (hX.nw hg q1 rfl) (hX.1.2.2.2.2 _ q3) hy hR, hX.1.2.2.2.2 _ q2, trivial⟩ ⟨RU.blind, hU⟩ rfl rfl (d.1.trans hnl) rfl ?_ hd hf) kk
  exact lv_room hc8
theorem v_callVN {host : String} {ci x N : Nat} {T : u_T} {t : Bool} {fs : List Value} {C : String} (hX : OK X cc own nL RM) (hnl : lv.length = nL) (hd : decode cc pc = .ok (.invokevirtual index, 3)) (hg : gC (xG X)) (hM : M0 (xG X) (xl X) y (ws_ y bytes maxL ret) rm mc ms (.ref x :: av) w post) (hc : vwCl[ci]? = some (C, T, N)) (he : w x = some (t, .inr (ci, fs))) (q1 : Cond.methodLinkNest own index y host ∈ lw_tbl) (q2 : Cond.instanceMethod y ∈ lw_all) (q3 : Cond.selects C y y ∈ lw_all) (q4 : Cond.initialized y.cls ∈ lw_all) (q5 : Cond.code y bytes maxL ret ∈ lw_all) (hm : rm.cells = mc ∧ rm.slots = ms) (hy : y.cls ≠ "java/lang/invoke/MethodHandle" ∧ y.cls ≠ "java/lang/invoke/VarHandle" ∧ (parseMethodDescriptor y.desc).map (fun d => d.parameters.length) = some av.length)
    (hR : rm.frames + 1 ≤ RM.frames ∧ 8 + (maxL + 11) + rm.locals ≤ RM.locals) (hst : av.reverse ++ .ref x :: rest = st) (hc8 : (rest.map fun v => v.category).sum ≤ 8) (hf : k + mc ≤ RM.cells ∧ n + ms ≤ RM.slots)
    (kk : ∀ (v : Option Value) (w' : Wd), post v w' → V X w' (k + mc) (n + ms) (pc + 3) lv (v.toList ++ rest)) : V X w k n pc lv st := by
  intro H locs ls a b c d
  obtain ⟨hA, hU⟩ := w_pre (av := .ref x :: av) hX a b c
  subst hst
  have hRM : xR X = RM := hX.2.2.2.2.2.2.2
  rw [← hRM] at hR hf
  refine w_after hX a b c d (va_runVN (C := C) (As := av) (rest := rest) hX.1 (hM H.size) ⟨va_cnB av.length hX.1.2.2.2.2 (lw_meth q5) rfl hm.1 hm.2 (hX.nw hg q1 rfl) (hX.1.2.2.2.2 _ q4) hy hR, hX.1.2.2.2.2 _ q2, hX.1.2.2.2.2 _ q3⟩ ⟨RU.blind, va_recv hX.2.1 (w_one a he) hc (q0 := 0) rfl, hU⟩ rfl rfl (d.1.trans hnl) rfl ?_ hd hf) kk
  exact lv_room hc8
theorem v_callIN {host : String} {x : Nat} (hX : OK X cc own nL RM) (hnl : lv.length = nL) (hd : decode cc pc = .ok (.invokespecial index, 3)) (hg : gC (xG X)) (hM : M0 (xG X) (xl X) y (ws_ y bytes maxL none) rm mc ms (.ref x :: av) w post) (q1 : Cond.methodLinkNest own index y host ∈ lw_tbl) (q2 : Cond.instanceMethod y ∈ lw_all) (q4 : Cond.initialized y.cls ∈ lw_all) (q5 : Cond.code y bytes maxL none ∈ lw_all) (hy1 : y.name = "<init>") (hm : rm.cells = mc ∧ rm.slots = ms) (hy : y.cls ≠ "java/lang/invoke/MethodHandle" ∧ y.cls ≠ "java/lang/invoke/VarHandle" ∧ (parseMethodDescriptor y.desc).map (fun d => d.parameters.length) = some av.length)
    (hR : rm.frames + 1 ≤ RM.frames ∧ 8 + (maxL + 11) + rm.locals ≤ RM.locals) (hst : av.reverse ++ .ref x :: rest = st) (hc8 : (rest.map fun v => v.category).sum ≤ 8) (hf : k + mc ≤ RM.cells ∧ n + ms ≤ RM.slots)
    (kk : ∀ (v : Option Value) (w' : Wd), post v w' → V X w' (k + mc) (n + ms) (pc + 3) lv (v.toList ++ rest)) : V X w k n pc lv st := by
  intro H locs ls a b c d
  obtain ⟨hA, hU⟩ := w_pre (av := .ref x :: av) hX a b c
  subst hst
  have hRM : xR X = RM := hX.2.2.2.2.2.2.2
  rw [← hRM] at hR hf
  refine w_after hX a b c d (va_runIN (As := av) (rest := rest) hX.1 (hM H.size) ⟨va_cnB av.length hX.1.2.2.2.2 (lw_meth q5) rfl hm.1 hm.2 (hX.nw hg q1 rfl) (hX.1.2.2.2.2 _ q4) hy hR, hy1, hX.1.2.2.2.2 _ q2⟩ ⟨RU.blind, hU⟩ rfl rfl (d.1.trans hnl) rfl ?_ hd hf) kk
  exact lv_room hc8
theorem w_after5 (hX : OK X cc own nL RM) {H : Heap} {locs : List Loc} (a : wRP (xG X) w H) (b : va_S (xA X) (xs X).heap H locs) (c : (∀ (a : Nat) (e : va_E), w a = some (true, e) → xA X a) ∧ ∀ (a : Nat) (e : va_E), w a = some (false, e) → xF X a e) {ls : Array Slot} (d : LH ls lv) {a' : Array Value}
    (hr : va_Run5 (xp X) (xl X) (xe X) (xR X) (xs X) (xm X) (xa X) (xb X) (xh X) (xc X) H locs k n mc ms (F0 (xm X) pc ls st) rest (QR (xG X) w H.size post a') (wA w H.size))
    (kk : ∀ (v : Option Value) (w' : Wd), post v w' → V X w' (k + mc) (n + ms) (pc + 5) lv (v.toList ++ rest)) : W (xp X) (xl X) (xe X) (xR X) (xs X) (xm X) (xa X) (xb X) (xh X) (xc X) H locs k n (xQ X) (F0 (xm X) pc ls st) := by
  obtain ⟨hA, -⟩ := w_pre (av := []) hX a b c
  intro T hT Y
  obtain ⟨v, st₀, t, T', L, h0, X', hL, e1, e2, ⟨⟨v', w', hv, hp, h1, h2, h3⟩, hz, hkp⟩, go⟩ := hr T hT Y
  cases hv
  rw [h0] at hz hkp
  obtain ⟨t2, a1, b1⟩ := kk v w' hp T'.heap (locs ++ L) ls (by rw [e1]; exact h1)
    ⟨Nat.le_trans b.1 (by rw [e1]; exact hz), fun q h4 h5 => by rw [e1, hkp q (Nat.lt_of_lt_of_le h4 b.1) (fun z => h5 (hA q z))]; exact b.2.1 q h4 h5, fun q hq => by
      rcases List.mem_append.mp hq with h | h
      · exact b.2.2 q h
      · exact hA _ (hL q h)⟩ ⟨fun x e h => hA x (h2 x e h), fun x e h => c.2 x e (h3 x e h)⟩ d T' rfl X'
  exact ⟨t2, go t2 a1, b1⟩
theorem v_callF {z : MethodName} {count ci x N : Nat} {T : u_T} {t : Bool} {fs : List Value} {C : String} (hX : OK X cc own nL RM) (hnl : lv.length = nL) (hd : decode cc pc = .ok (.invokeinterface index count, 5)) (hg : gC (xG X)) (hM : M0 (xG X) (xl X) y (ws_ y bytes maxL ret) rm mc ms (.ref x :: av) w post) (hc : vwCl[ci]? = some (C, T, N)) (he : w x = some (t, .inr (ci, fs))) (hF : (C, z, y) ∈ gF) (q1 : Cond.methodLink own index z ∈ lw_all) (q2 : Cond.instanceMethod y ∈ lw_all) (q3 : Cond.selects C z y ∈ lw_all) (q4 : Cond.initialized y.cls ∈ lw_all) (q5 : Cond.code y bytes maxL ret ∈ lw_all) (hm : rm.cells = mc ∧ rm.slots = ms) (hy : z.cls ≠ "java/lang/invoke/MethodHandle" ∧ z.cls ≠ "java/lang/invoke/VarHandle" ∧ (parseMethodDescriptor z.desc).map (fun d => d.parameters.length) = some av.length)
    (hR : rm.frames + 1 ≤ RM.frames ∧ 8 + (maxL + 11) + rm.locals ≤ RM.locals) (hst : av.reverse ++ .ref x :: rest = st) (hc8 : (rest.map fun v => v.category).sum ≤ 8) (hf : k + mc ≤ RM.cells ∧ n + ms ≤ RM.slots)
    (kk : ∀ (v : Option Value) (w' : Wd), post v w' → V X w' (k + mc) (n + ms) (pc + 5) lv (v.toList ++ rest)) : V X w k n pc lv st := by
  intro H locs ls a b c d
  obtain ⟨hA, hU⟩ := w_pre (av := .ref x :: av) hX a b c
  subst hst
  have hRM : xR X = RM := hX.2.2.2.2.2.2.2
  rw [← hRM] at hR hf
  have hGood : GoodIn lw_all (va_wsF own index C z y (ws_ y bytes maxL ret)) := by
    refine lw_app ?_ (lw_meth q5)
    intro u h
    simp only [List.mem_cons, List.not_mem_nil, or_false] at h
    rcases h with h | h | h | h <;> subst h <;> assumption
  refine w_after5 hX a b c d (va_runF (cC := (xG X).1.1 ci) (As := av) (rest := rest) (hX.2.1.1 ci _ hc).2 hX.1 (hM H.size) (va_cwF av.length hX.1.2.2.2.2 hGood rfl hm.1 hm.2 ((hX.gn hg).2.2.1 _ hF) hy hR) ⟨RU.blind, va_recv hX.2.1 (w_one a he) hc (q0 := 0) rfl, hU⟩ rfl rfl (d.1.trans hnl) rfl ?_ hd hf) kk
  exact lv_room hc8
end V2C
