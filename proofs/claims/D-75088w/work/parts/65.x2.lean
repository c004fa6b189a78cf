/-! facts of constants, statics, throws; rows that read Strings; rows of throws -/
set_option maxRecDepth 100000
/-- the String constants: class, entry, text, letters -/
def kS : List (String × Nat × String × List Nat) := [("BakeryPlan", 60, "", []), ("BakeryPlan", 329, " m", [32, 109]), ("BakeryPlan", 334, "@", [64]), ("BakeryPlan", 340, " d", [32, 100]), ("BakeryPlan", 342, " ", [32]), ("BakeryPlan", 305, "open", [111, 112, 101, 110]), ("BakeryPlan", 307, "done", [100, 111, 110, 101]), ("BakeryPlan", 309, "late", [108, 97, 116, 101]), ("BakeryPlan", 311, "lost", [108, 111, 115, 116]), ("BakeryPlan$ByOrder", 7, "order", [111, 114, 100, 101, 114]), ("BakeryPlan$ByAge", 17, "urgent", [117, 114, 103, 101, 110, 116]), ("BakeryPlan$ByWave", 31, "wave", [119, 97, 118, 101]), ("BakeryPlanModel", 505, " open", [32, 111, 112, 101, 110]), ("BakeryPlanModel", 507, " done", [32, 100, 111, 110, 101]), ("BakeryPlanModel", 509, " late", [32, 108, 97, 116, 101]), ("BakeryPlanModel", 511, " lost", [32, 108, 111, 115, 116]), ("BakeryPlan$Parser", 25, "", []), ("BakeryPlan$Parser", 133, "product", [112, 114, 111, 100, 117, 99, 116]), ("BakeryPlan$Parser", 135, "wave", [119, 97, 118, 101]), ("BakeryPlan$Parser", 137, "batch", [98, 97, 116, 99, 104]), ("BakeryPlan$Parser", 139, "policy", [112, 111, 108, 105, 99, 121]), ("BakeryPlan$Parser", 119, "mixers", [109, 105, 120, 101, 114, 115]), ("BakeryPlan$Parser", 121, "decks", [100, 101, 99, 107, 115]), ("BakeryPlan$Parser", 123, "shelves", [115, 104, 101, 108, 118, 101, 115]), ("BakeryPlan$Parser", 125, "clean", [99, 108, 101, 97, 110]), ("BakeryPlan$Parser", 127, "slow", [115, 108, 111, 119]), ("BakeryPlan$Parser", 129, "rate", [114, 97, 116, 101]), ("BakeryPlan$Parser", 131, "cool", [99, 111, 111, 108])]
def kW : List Cond := [.declares ⟨"java/lang/RuntimeException", "<init>", "()V"⟩, .declares ⟨"java/lang/Exception", "<init>", "()V"⟩, .declares ⟨"java/lang/Throwable", "<init>", "()V"⟩]
/-- a String of the start: its place, its array, its letters -/
def kO (a b : Nat) (ls : List Nat) (A : Nat → Prop) (U : State) (H : Heap) : Prop := va_O "java/lang/String" a A U H ∧ va_OF "java/lang/String" "coder" "B" (.int 0) a A U H ∧ va_OF "java/lang/String" "value" "[B" (.ref b) a A U H ∧ va_T .byte b ls.length (fun j => .int (nI (ls.getD j 0))) A U H
def kN (K : Nat → Nat × Nat) (D : Nat × Nat) (A : Nat → Prop) (U : State) (H : Heap) : Prop :=
  (∀ c ∈ kW, va_Nw c U) ∧ (vx_Zq Bundle.tN "UNASSIGNED_STACK" Bundle.steD A U H ∧ vx_Zq Bundle.tN "SUPPRESSED_SENTINEL" Bundle.listD A U H) ∧ (va_Nc "java/lang/IllegalArgumentException" "java/lang/IndexOutOfBoundsException" U ∧ va_Nc "java/lang/IllegalStateException" "java/lang/IndexOutOfBoundsException" U ∧ va_Nc "java/lang/IllegalStateException" "java/lang/IllegalArgumentException" U) ∧
  (va_Z "java/lang/String" "COMPACT_STRINGS" "Z" (.int 1) A U H ∧ va_Zq "jdk/internal/util/Preconditions" "SIOOBE_FORMATTER" "Ljava/util/function/BiFunction;" A U H) ∧
  (va_Z "java/lang/Integer" "DigitOnes" "[B" (.ref D.1) A U H ∧ va_T .byte D.1 100 (fun j => .int (nI (48 + j % 10))) A U H ∧ va_Z "java/lang/Integer" "DigitTens" "[B" (.ref D.2) A U H ∧ va_T .byte D.2 100 (fun j => .int (nI (48 + j / 10))) A U H) ∧
  ∀ (i : Nat) (c : String × Nat × String × List Nat), kS[i]? = some c → vk_R c.1 c.2.1 c.2.2.1 (K i).1 U ∧ kO (K i).1 (K i).2 c.2.2.2 A U H
def kC (Γ : Gm) (K : Nat → Nat × Nat) (D : Nat × Nat) : Prop := ∀ (A : Nat → Prop) (U : State) (H : Heap), Γ.2.2 A U H → kN K D A U H
/-- an array of bytes that can be read: of the world, or of the start -/
def bR (Γ : Gm) (w : Wd) (b n : Nat) (f : Nat → Int32) : Prop := w b = some (true, .inl (Γ.2.1 1, n, .inl f)) ∨ ∀ (A : Nat → Prop) (U : State) (H : Heap), Γ.2.2 A U H → va_T .byte b n (fun j => .int (f j)) A U H
/-- a String that can be read -/
def sR (Γ : Gm) (w : Wd) (a b n : Nat) (f : Nat → Int32) : Prop := ((∃ h z : Int32, w a = some (true, .inr (15, [.ref b, .int 0, .int h, .int z]))) ∨ ∀ (A : Nat → Prop) (U : State) (H : Heap), Γ.2.2 A U H → va_O "java/lang/String" a A U H ∧ va_OF "java/lang/String" "coder" "B" (.int 0) a A U H ∧ va_OF "java/lang/String" "value" "[B" (.ref b) a A U H) ∧ bR Γ w b n f
theorem kC.str {Γ : Gm} {K : Nat → Nat × Nat} {D : Nat × Nat} (hk : kC Γ K D) {w : Wd} (i : Nat) {c : String × Nat × String × List Nat} (hc : kS[i]? = some c) : sR Γ w (K i).1 (K i).2 c.2.2.2.length (fun j => nI (c.2.2.2.getD j 0)) := by
  refine ⟨Or.inr (fun A U H h => ?_), Or.inr (fun A U H h => ?_)⟩
  · have := ((hk A U H h).2.2.2.2.2 i c hc).2
    exact ⟨this.1, this.2.1, this.2.2.1⟩
  · exact ((hk A U H h).2.2.2.2.2 i c hc).2.2.2.2
theorem bR.fr {Γ : Gm} {w w' : Wd} {b n : Nat} {f : Nat → Int32} (h : bR Γ w b n f) (hw : ∀ q, w b = some q → w' b = some q) : bR Γ w' b n f := by
  rcases h with e | h
  · exact Or.inl (hw _ e)
  · exact Or.inr h
theorem sR.fr {Γ : Gm} {w w' : Wd} {a b n : Nat} {f : Nat → Int32} (h : sR Γ w a b n f) (ha : ∀ q, w a = some q → w' a = some q) (hb : ∀ q, w b = some q → w' b = some q) : sR Γ w' a b n f := by
  obtain ⟨h1, h2⟩ := h
  refine ⟨?_, h2.fr hb⟩
  rcases h1 with ⟨h, z, e⟩ | h
  · exact Or.inl ⟨h, z, ha _ e⟩
  · exact Or.inr h
section SROWS
variable {X : Cx} {w : Wd} {k n pc nL : Nat} {lv lv' : List (Option Value)} {st rest : List Value} {cc bytes : ByteArray} {own : String} {RM : Room} {K : Nat → Nat × Nat} {D : Nat × Nat} {index : Nat}
theorem OK.kn (hX : OK X cc own nL RM) (hk : kC (xG X) K D) : kN K D (xA X) (xs X) (xs X).heap := hk _ _ _ hX.2.2.2.2.2.1
theorem v_gets {C nm d ref : String} {v : Value} (hX : OK X cc own nL RM) (hd : decode cc pc = .ok (.getstatic index, 3)) (hlink : Cond.fieldLink own index ref nm d ∈ lw_all) (hZ : va_Z C nm d v (xA X) (xs X) (xs X).heap) (hsame : ∀ x, (xs X).fieldFound? C nm d = some x → (xs X).fieldFound? ref nm d = some x) (kk : V X w k n (pc + 3) lv (v :: st)) : V X w k n pc lv st :=
  fun H locs ls a b c d => va_gets hX.1.1 hX.1.2.1 hZ b hX.1.2.2.2.1 (hX.1.2.2.2.2 _ hlink) hsame hd (kk H locs ls a b c d)
theorem v_getsq {C nm d ref : String} (hX : OK X cc own nL RM) (hd : decode cc pc = .ok (.getstatic index, 3)) (hlink : Cond.fieldLink own index ref nm d ∈ lw_all) (hZ : va_Zq C nm d (xA X) (xs X) (xs X).heap) (hsame : ∀ x, (xs X).fieldFound? C nm d = some x → (xs X).fieldFound? ref nm d = some x) (k1 : V X w k n (pc + 3) lv (.null :: st)) (k2 : ∀ t : Nat, V X w k n (pc + 3) lv (.ref t :: st)) : V X w k n pc lv st := by
  rcases hZ with hZ | ⟨t, hZ⟩
  · exact v_gets hX hd hlink hZ hsame k1
  · exact v_gets hX hd hlink hZ hsame (k2 t)
theorem v_ldcS {c : String × Nat × String × List Nat} (hX : OK X cc own nL RM) (hk : kC (xG X) K D) (i : Nat) (hc : kS[i]? = some c) (hown : c.1 = own) (hd : decode cc pc = .ok (.ldc c.2.1, 2)) (kk : V X w k n (pc + 2) lv (.ref (K i).1 :: st)) : V X w k n pc lv st := by
  subst hown
  exact fun H locs ls a b c2 d => va_ldcS hX.1.1 hX.1.2.1 hX.1.2.2.2.1 ((hX.kn hk).2.2.2.2.2 i c hc).1 hd (kk H locs ls a b c2 d)
theorem v_sval {a b m : Nat} {f : Nat → Int32} (hX : OK X cc RJ9 nL RM) (hd : decode cc pc = .ok (.getfield index, 3)) (hlink : Cond.fieldLink RJ9 index "java/lang/String" "value" "[B" ∈ lw_all) (hs : sR (xG X) w a b m f) (kk : V X w k n (pc + 3) lv (.ref b :: st)) : V X w k n pc lv (.ref a :: st) := by
  rcases hs.1 with ⟨h, z, e⟩ | h
  · exact v_get hX hd in_J9 cl_15 0 (by decide) hlink (fun _ h => h) e rfl kk
  · exact fun H locs ls a' b c d => vk_getf hX.1.1 hX.1.2.1 (h _ _ _ hX.2.2.2.2.2.1).2.2 b hX.1.2.2.2.1 (hX.1.2.2.2.2 _ hlink) (fun _ h => h) hd (kk H locs ls a' b c d)
theorem v_scod {a b m : Nat} {f : Nat → Int32} (hX : OK X cc RJ9 nL RM) (hd : decode cc pc = .ok (.getfield index, 3)) (hlink : Cond.fieldLink RJ9 index "java/lang/String" "coder" "B" ∈ lw_all) (hs : sR (xG X) w a b m f) (kk : V X w k n (pc + 3) lv (.int 0 :: st)) : V X w k n pc lv (.ref a :: st) := by
  rcases hs.1 with ⟨h, z, e⟩ | h
  · exact v_get hX hd in_J9 cl_15 1 (by decide) hlink (fun _ h => h) e rfl kk
  · exact fun H locs ls a' b c d => vk_getf hX.1.1 hX.1.2.1 (h _ _ _ hX.2.2.2.2.2.1).2.1 b hX.1.2.2.2.1 (hX.1.2.2.2.2 _ hlink) (fun _ h => h) hd (kk H locs ls a' b c d)
theorem v_bbald {b m : Nat} {f : Nat → Int32} {i : Int32} (hX : OK X cc own nL RM) (hd : decode cc pc = .ok (.baload, 1)) (hb : bR (xG X) w b m f) (hi : vp_in i m) (kk : V X w k n (pc + 1) lv (.int (f i.toNatClampNeg) :: st)) : V X w k n pc lv (.int i :: .ref b :: st) := by
  rcases hb with e | h
  · exact v_bald hX hd e hi kk
  · exact fun H locs ls a' b c d => va_tb hX.1.1 hX.1.2.1 (h _ _ _ hX.2.2.2.2.2.1) b hi rfl hd (kk H locs ls a' b c d)
theorem v_balen {b m : Nat} {f : Nat → Int32} (hX : OK X cc own nL RM) (hd : decode cc pc = .ok (.arraylength, 1)) (hb : bR (xG X) w b m f) (kk : V X w k n (pc + 1) lv (.int (nI m) :: st)) : V X w k n pc lv (.ref b :: st) := by
  rcases hb with e | h
  · exact v_alen (ti := 1) hX hd e rfl rfl kk
  · exact fun H locs ls a' b c d => va_tlen hX.1.1 hX.1.2.1 (h _ _ _ hX.2.2.2.2.2.1) b rfl hd (kk H locs ls a' b c d)
/-- a copy out of bytes that can be read into bytes of the world -/
theorem v_bcopy {x y n0 n1 : Nat} {f g : Nat → Int32} {sp dp m : Int32} (hX : OK X cc own nL RM) (hnl : lv.length = nL) (hd : decode cc pc = .ok (.invokestatic index, 3)) (hlink : Cond.methodLink own index arraycopyName ∈ lw_all) (hx : bR (xG X) w x n0 f) (hy : w y = some (true, .inl ((xG X).2.1 1, n1, .inl g))) (h1 : ¬ sp < 0) (h2 : ¬ dp < 0) (h3 : ¬ m < 0) (h4 : sp.toNatClampNeg + m.toNatClampNeg ≤ n0) (h5 : dp.toNatClampNeg + m.toNatClampNeg ≤ n1) (hfit : ∀ i, i < m.toNatClampNeg → fits .byte (.int (f (sp.toNatClampNeg + i))) = true) (hfr : 1 ≤ RM.frames) (hlo : (st.map fun v => v.category).sum + (nativeFrameWords "java/lang/System" "arraycopy" 5 + 11) ≤ RM.locals) (kk : V X (wup w y (true, .inl ((xG X).2.1 1, n1, .inl (va_cpy f g sp.toNatClampNeg dp.toNatClampNeg m.toNatClampNeg)))) k n (pc + 3) lv st) : V X w k n pc lv (.int m :: .int dp :: .ref y :: .int sp :: .ref x :: st) := by
  rcases hx with e | h
  · exact v_copyp (ti := 1) hX hnl hd hlink rfl rfl e hy h1 h2 h3 h4 h5 hfit hfr hlo kk
  · intro H locs ls a b c d
    have hRM : xR X = RM := hX.2.2.2.2.2.2.2
    rw [← hRM] at hfr hlo
    obtain ⟨hP, hD⟩ := w_lst a c
    obtain ⟨q1, hq1⟩ := w_at a hy
    refine vk_copyt hX.1.1 hX.1.2.1 (hX.1.2.2.1.trans ((d.1.trans hnl).symm)) hX.1.2.2.2.1 (hX.1.2.2.2.2 _ hlink) (hX.1.2.2.2.2 _ q_acs.2) (hX.1.2.2.2.2 _ q_acs.1) (hX.1.2.2.2.2 _ q_sys) hX.2.1 hP hD b (h _ _ _ hX.2.2.2.2.2.1) q1 1 hq1 rfl h1 h2 h3 h4 h5 hfit hfr hlo hd (fun H1 locs1 hP1 hD1 hS1 => ?_)
    obtain ⟨r1, r2⟩ := w_back a b hS1 c hX.2.2.2.2.2.2.1 hy hq1 hP1
    exact kk H1 locs1 ls r1 hS1 r2 d
/-- a String as the receiver of a call -/
theorem sR.recv {a b m : Nat} {f : Nat → Int32} (hX : OK X cc own nL RM) (hs : sR (xG X) w a b m f) {H : Heap} {locs : List Loc} (hr : wRP (xG X) w H) (hS : va_S (xA X) (xs X).heap H locs) : ∃ cell : Cell, H[a]? = some cell ∧ cell.vm.isStatics = false ∧ (xs X).vm.findClass "java/lang/String" = some cell.cls := by
  rcases hs.1 with ⟨h, z, e⟩ | h
  · exact va_recv (q := (RJ9, TJ9, 4)) hX.2.1 (w_one hr e) cl_15 (q0 := 0) rfl
  · obtain ⟨cell, h1, h2, h3, -⟩ := ((h _ _ _ hX.2.2.2.2.2.1).1.kept hS.2.1)
    exact ⟨cell, h1, h2, h3⟩
theorem v_callVs {a b m mc ms na maxL : Nat} {f : Nat → Int32} {y : MethodName} {ret : Option FieldType} {rm : Room} {av : List Value} {post : Option Value → Wd → Prop} (hX : OK X cc own nL RM) (hnl : lv.length = nL) (hd : decode cc pc = .ok (.invokevirtual index, 3)) (q1 : Cond.methodLink own index y ∈ lw_all) (cg : CG y bytes maxL ret na) (q3 : Cond.selects RJ9 y y ∈ lw_all) (hcl : y.cls = RJ9) (hs : sR (xG X) w a b m f) (hM : M0 (xG X) (xl X) y (ws_ y bytes maxL ret) rm mc ms (.ref a :: av) w post) (hna : av.length = na) (hm : rm.cells = mc ∧ rm.slots = ms)
    (hR : rm.frames + 1 ≤ RM.frames ∧ 8 + (maxL + 11) + rm.locals ≤ RM.locals) (hst : av.reverse ++ .ref a :: rest = st) (hc8 : (rest.map fun v => v.category).sum ≤ 8) (hf : k + mc ≤ RM.cells ∧ n + ms ≤ RM.slots)
    (kk : ∀ (v : Option Value) (w' : Wd), post v w' → V X w' (k + mc) (n + ms) (pc + 3) lv (v.toList ++ rest)) : V X w k n pc lv st := by
  intro H locs ls a' b' c d
  obtain ⟨hA, hU⟩ := w_pre (av := .ref a :: av) hX a' b' c
  subst hst
  have hRM : xR X = RM := hX.2.2.2.2.2.2.2
  rw [← hRM] at hR hf
  refine w_after hX a' b' c d (va_runV (C := RJ9) (As := av) (rest := rest) hX.1 (hM H.size) (cwV av.length hX.1.2.2.2.2 (lw_V q1 cg.1 q3 (by rw [← hcl]; exact cg.2.1) cg.2.2.1) rfl hm.1 hm.2 (by rw [hna]; exact ⟨hcl, cg.2.2.2⟩) hR) ⟨RU.blind, hs.recv hX a' b', hU⟩ rfl rfl (d.1.trans hnl) rfl ?_ hd hf) kk
  exact lv_room hc8
theorem v_cVse {a b m na maxL : Nat} {f : Nat → Int32} {y : MethodName} {ret : Option FieldType} {rm : Room} {av : List Value} {r : Value} (hX : OK X cc own nL RM) (hnl : lv.length = nL) (hd : decode cc pc = .ok (.invokevirtual index, 3)) (q1 : Cond.methodLink own index y ∈ lw_all) (cg : CG y bytes maxL ret na) (q3 : Cond.selects RJ9 y y ∈ lw_all) (hcl : y.cls = RJ9) (hs : sR (xG X) w a b m f) (hM : MRd (xG X) (xl X) y (ws_ y bytes maxL ret) rm (.ref a :: av) w r) (hna : av.length = na) (hm : rm.cells = 0 ∧ rm.slots = 0)
    (hR : rm.frames + 1 ≤ RM.frames ∧ 8 + (maxL + 11) + rm.locals ≤ RM.locals) (hst : av.reverse ++ .ref a :: rest = st) (hc8 : (rest.map fun v => v.category).sum ≤ 8) (hf : k ≤ RM.cells ∧ n ≤ RM.slots)
    (kk : V X w k n (pc + 3) lv (r :: rest)) : V X w k n pc lv st :=
  v_callVs hX hnl hd q1 cg q3 hcl hs hM hna hm hR hst hc8 hf (fun v w' h => by obtain ⟨rfl, rfl⟩ := h; exact kk)
/-- the same through CharSequence -/
theorem v_callFs {a b m count mc ms na maxL : Nat} {f : Nat → Int32} {z y : MethodName} {ret : Option FieldType} {rm : Room} {av : List Value} {r : Value} (hX : OK X cc own nL RM) (hnl : lv.length = nL) (hd : decode cc pc = .ok (.invokeinterface index count, 5)) (hg : gC (xG X)) (q1 : Cond.methodLink own index z ∈ lw_all) (cg : CG y bytes maxL ret na) (hF : (RJ9, z, y) ∈ gF) (q3 : Cond.selects RJ9 z y ∈ lw_all) (hz : z.cls ≠ "java/lang/invoke/MethodHandle" ∧ z.cls ≠ "java/lang/invoke/VarHandle" ∧ (parseMethodDescriptor z.desc).map (fun d => d.parameters.length) = some na) (hs : sR (xG X) w a b m f) (hM : MRd (xG X) (xl X) y (ws_ y bytes maxL ret) rm (.ref a :: av) w r) (hna : av.length = na) (hm : rm.cells = 0 ∧ rm.slots = 0)
    (hR : rm.frames + 1 ≤ RM.frames ∧ 8 + (maxL + 11) + rm.locals ≤ RM.locals) (hst : av.reverse ++ .ref a :: rest = st) (hc8 : (rest.map fun v => v.category).sum ≤ 8) (hf : k ≤ RM.cells ∧ n ≤ RM.slots)
    (kk : V X w k n (pc + 5) lv (r :: rest)) : V X w k n pc lv st := by
  intro H locs ls a' b' c d
  obtain ⟨hA, hU⟩ := w_pre (av := .ref a :: av) hX a' b' c
  subst hst
  have hRM : xR X = RM := hX.2.2.2.2.2.2.2
  rw [← hRM] at hR hf
  have hGood : GoodIn lw_all (va_wsF own index RJ9 z y (ws_ y bytes maxL ret)) := by
    refine lw_app ?_ (lw_meth cg.2.2.1)
    intro u h
    simp only [List.mem_cons, List.not_mem_nil, or_false] at h
    have h2 := cg.1
    have h4 := cg.2.1
    rcases h with h | h | h | h <;> subst h <;> assumption
  refine w_after5 hX a' b' c d (va_runF (cC := (xG X).1.1 15) (As := av) (rest := rest) (hX.2.1.1 15 _ cl_15).2 hX.1 (hM H.size) (va_cwF av.length hX.1.2.2.2.2 hGood rfl hm.1 hm.2 ((hX.gn hg).2.2.1 _ hF) (by rw [hna]; exact hz) hR) ⟨RU.blind, hs.recv hX a' b', hU⟩ rfl rfl (d.1.trans hnl) rfl ?_ hd hf) (fun v w' h => by obtain ⟨rfl, rfl⟩ := h; exact kk)
  exact lv_room hc8
/-- instanceof and checkcast of a String -/
theorem v_sinst {a b m : Nat} {f : Nat → Int32} (hX : OK X cc own nL RM) (hd : decode cc pc = .ok (.instanceof index, 3)) (hl : Cond.classLink own index "java/lang/String" ∈ lw_all) (hs : sR (xG X) w a b m f) (kk : V X w k n (pc + 3) lv (.int 1 :: st)) : V X w k n pc lv (.ref a :: st) :=
  fun H locs ls a' b' c d => va_instE hX.1.1 hX.1.2.1 hX.1.2.2.2.1 (hX.1.2.2.2.2 _ hl) (hs.recv hX a' b') hd (kk H locs ls a' b' c d)
theorem v_scast {a b m : Nat} {f : Nat → Int32} (hX : OK X cc own nL RM) (hd : decode cc pc = .ok (.checkcast index, 3)) (hl : Cond.classLink own index "java/lang/String" ∈ lw_all) (hs : sR (xG X) w a b m f) (kk : V X w k n (pc + 3) lv (.ref a :: st)) : V X w k n pc lv (.ref a :: st) :=
  fun H locs ls a' b' c d => va_castE hX.1.1 hX.1.2.1 hX.1.2.2.2.1 (hX.1.2.2.2.2 _ hl) (hs.recv hX a' b') hd (kk H locs ls a' b' c d)
end SROWS

