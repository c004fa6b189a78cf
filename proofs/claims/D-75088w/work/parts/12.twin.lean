/-! THE TWIN: the world of one BakeryPlanModel: its object (place 61 of G) and its arrays (place of the field) -/
set_option maxRecDepth 100000
abbrev TS : Type := (Nat → Int32) × (Nat → Int64) × (Nat → Nat → Int32) × (Nat → Nat → Int64)
def tkl : List Nat := [0, 2, 0, 0, 0, 0, 2, 2, 2, 2, 2, 2, 2, 0, 2, 2, 0, 0, 2, 0, 0, 0, 0, 0, 0, 1, 0, 0, 0, 2, 2, 2, 2, 2, 2, 2, 2, 2, 2, 2, 2, 2, 2, 2, 2, 2, 2, 2, 2, 2, 2, 2, 0, 0, 2, 2, 2, 2, 0, 0, 0]
def tti : List Nat := [9, 0, 9, 9, 9, 9, 0, 0, 0, 0, 0, 0, 3, 9, 0, 1, 9, 9, 2, 9, 9, 9, 9, 9, 9, 9, 9, 9, 9, 0, 3, 0, 0, 0, 0, 0, 0, 0, 0, 0, 0, 0, 0, 0, 0, 0, 0, 0, 0, 0, 0, 0, 9, 9, 0, 0, 0, 0, 9, 9, 9, 8]
def tln : List Nat := [0, 840, 0, 0, 0, 0, 8, 8, 8, 8, 8, 8, 8, 0, 6, 700, 0, 0, 60, 0, 0, 0, 0, 0, 0, 0, 0, 0, 0, 48, 8, 6, 20, 20, 20, 20, 20, 20, 20, 20, 20, 20, 20, 3, 3, 3, 3, 4, 4, 4, 4, 4, 0, 0, 5760, 5760, 1440, 1440, 0, 0, 0]
def tval (G : Nat → Nat) (x : TS) (j : Nat) : Value := match tkl.getD j 0 with
  | 0 => .int (x.1 j)
  | 1 => .long (x.2.1 j)
  | _ => .ref (G j)
def tfs (G : Nat → Nat) (x : TS) : List Value := (List.range 61).map (tval G x)
def tcell (Γ : Gm) (x : TS) (j : Nat) : va_E := if tti.getD j 9 = 3 then .inl (Γ.2.1 3, tln.getD j 0, .inr (.inl (x.2.2.2 j))) else .inl (Γ.2.1 (tti.getD j 9), tln.getD j 0, .inl (x.2.2.1 j))
/-- the world w: the twin at G in the state x; all else as wB says -/
def tW (Γ : Gm) (G : Nat → Nat) (wB : Wd) (x : TS) (w : Wd) : Prop := w (G 61) = some (true, .inr (0, tfs G x)) ∧ (∀ j, j < 61 → tti.getD j 9 < 8 → w (G j) = some (true, tcell Γ x j)) ∧ (∀ a, (∀ j, j < 62 → tti.getD j 9 < 9 → a ≠ G j) → w a = wB a) ∧ ∀ i j, i < 62 → j < 62 → tti.getD i 9 < 9 → tti.getD j 9 < 9 → G i = G j → i = j
def sI (x : TS) (j : Nat) (v : Int32) : TS := (upd x.1 j v, x.2)
def sL (x : TS) (j : Nat) (v : Int64) : TS := (x.1, vp_updL x.2.1 j v, x.2.2)
def sA (x : TS) (j : Nat) (f : Nat → Int32) : TS := (x.1, x.2.1, va_up x.2.2.1 j f, x.2.2.2)
def sB (x : TS) (j : Nat) (f : Nat → Int64) : TS := (x.1, x.2.1, x.2.2.1, va_up x.2.2.2 j f)
def tU (x : TS) (j : Nat) (i v : Int32) : TS := sA x j (upd (x.2.2.1 j) i.toNatClampNeg v)
def tV (x : TS) (j : Nat) (i : Int32) (v : Int64) : TS := sB x j (vp_updL (x.2.2.2 j) i.toNatClampNeg v)
theorem tfs_at {G : Nat → Nat} {x : TS} {j : Nat} (h : j < 61) : (tfs G x)[j]? = some (tval G x j) := by
  unfold tfs
  rw [List.getElem?_map, List.getElem?_range h]; rfl
theorem tfs_len {G : Nat → Nat} {x : TS} : (tfs G x).length = 61 := by simp [tfs]
theorem tfs_set {G : Nat → Nat} {x x' : TS} {j : Nat} {v : Value} (h1 : tval G x' j = v) (h2 : ∀ i, i < 61 → i ≠ j → tval G x' i = tval G x i) : (tfs G x).set j v = tfs G x' := by
  apply List.ext_getElem?
  intro i
  rw [List.getElem?_set]
  by_cases e : j = i
  · subst e
    rw [if_pos rfl]
    split
    · rename_i h; rw [tfs_len] at h; rw [tfs_at h, h1]
    · rename_i h; rw [tfs_len] at h; rw [List.getElem?_eq_none (by rw [tfs_len]; omega)]
  · rw [if_neg e]
    by_cases h : i < 61
    · rw [tfs_at h, tfs_at h, h2 i h (fun q => e q.symm)]
    · rw [List.getElem?_eq_none (by rw [tfs_len]; omega), List.getElem?_eq_none (by rw [tfs_len]; omega)]
theorem tW.obj {Γ : Gm} {G : Nat → Nat} {wB : Wd} {x x' : TS} {w : Wd} (h : tW Γ G wB x w) {j : Nat} {v : Value} (h1 : tval G x' j = v) (h2 : ∀ i, i < 61 → i ≠ j → tval G x' i = tval G x i) (h3 : x'.2.2 = x.2.2) : tW Γ G wB x' (wup w (G 61) (true, .inr (0, (tfs G x).set j v))) := by
  refine ⟨by rw [wup_s, tfs_set h1 h2], fun i hi ht => ?_, fun a ha => ?_, h.2.2.2⟩
  · have hne : G i ≠ G 61 := fun e => by
      have := h.2.2.2 i 61 (by omega) (by decide) (by omega) (by decide) e
      omega
    rw [wup_n hne, h.2.1 i hi ht]
    unfold tcell
    rw [h3]
  · rw [wup_n (ha 61 (by decide) (by decide)), h.2.2.1 a ha]
theorem tW.arr {Γ : Gm} {G : Nat → Nat} {wB : Wd} {x x' : TS} {w : Wd} (h : tW Γ G wB x w) {j : Nat} (hj : j < 61) (ht : tti.getD j 9 < 8) {e : va_E} (h1 : tcell Γ x' j = e) (h2 : ∀ i, i < 61 → i ≠ j → tcell Γ x' i = tcell Γ x i) (h3 : x'.1 = x.1) (h4 : x'.2.1 = x.2.1) : tW Γ G wB x' (wup w (G j) (true, e)) := by
  refine ⟨?_, fun i hi hti => ?_, fun a ha => ?_, h.2.2.2⟩
  · have hne : G 61 ≠ G j := fun e => by
      have := h.2.2.2 61 j (by decide) (by omega) (by decide) (by omega) e
      omega
    rw [wup_n hne, h.1]
    congr 4
    unfold tfs
    congr 1
    funext i
    unfold tval
    rw [h3, h4]
  · by_cases e : i = j
    · subst e; rw [wup_s, h1]
    · have hne : G i ≠ G j := fun q => e (h.2.2.2 i j (by omega) (by omega) (by omega) (by omega) q)
      rw [wup_n hne, h.2.1 i hi hti, h2 i hi e]
  · rw [wup_n (ha j (by omega) (by omega)), h.2.2.1 a ha]
section TROWS
variable {X : Cx} {w wB : Wd} {k n pc nL : Nat} {lv : List (Option Value)} {st : List Value} {cc : ByteArray} {G : Nat → Nat} {x : TS} {index : Nat} {RM : Room}
theorem tv_getI (hX : OK X cc RX8 nL RM) (hd : decode cc pc = .ok (.getfield index, 3)) (hw : tW (xG X) G wB x w) (j : Nat) (hj : j < 61) (hk : tkl.getD j 0 = 0) (hlink : Cond.fieldLink RX8 index (TX8 j).1 (TX8 j).2.1 (TX8 j).2.2.1 ∈ lw_all) (kk : V X w k n (pc + 3) lv (.int (x.1 j) :: st)) : V X w k n pc lv (.ref (G 61) :: st) :=
  v_get hX hd in_X8 cl_0 j hj hlink (fun _ h => h) hw.1 (by rw [tfs_at hj]; unfold tval; rw [hk]; rfl) kk
theorem tv_getL (hX : OK X cc RX8 nL RM) (hd : decode cc pc = .ok (.getfield index, 3)) (hw : tW (xG X) G wB x w) (j : Nat) (hj : j < 61) (hk : tkl.getD j 0 = 1) (hlink : Cond.fieldLink RX8 index (TX8 j).1 (TX8 j).2.1 (TX8 j).2.2.1 ∈ lw_all) (kk : V X w k n (pc + 3) lv (.long (x.2.1 j) :: st)) : V X w k n pc lv (.ref (G 61) :: st) :=
  v_get hX hd in_X8 cl_0 j hj hlink (fun _ h => h) hw.1 (by rw [tfs_at hj]; unfold tval; rw [hk]; rfl) kk
theorem tv_getA (hX : OK X cc RX8 nL RM) (hd : decode cc pc = .ok (.getfield index, 3)) (hw : tW (xG X) G wB x w) (j : Nat) (hj : j < 61) (hk : tkl.getD j 0 = 2) (hlink : Cond.fieldLink RX8 index (TX8 j).1 (TX8 j).2.1 (TX8 j).2.2.1 ∈ lw_all) (kk : V X w k n (pc + 3) lv (.ref (G j) :: st)) : V X w k n pc lv (.ref (G 61) :: st) :=
  v_get hX hd in_X8 cl_0 j hj hlink (fun _ h => h) hw.1 (by rw [tfs_at hj]; unfold tval; rw [hk]; rfl) kk
theorem tv_putI {v : Int32} (hX : OK X cc RX8 nL RM) (hd : decode cc pc = .ok (.putfield index, 3)) (hw : tW (xG X) G wB x w) (j : Nat) (hj : j < 61) (hk : tkl.getD j 0 = 0) (hlink : Cond.fieldLink RX8 index (TX8 j).1 (TX8 j).2.1 (TX8 j).2.2.1 ∈ lw_all) (hfin : (TX8 j).2.2.2 = false) (hp : parseFieldDescriptor (TX8 j).2.2.1 = some .int) (kk : ∀ w, tW (xG X) G wB (sI x j v) w → V X w k n (pc + 3) lv st) : V X w k n pc lv (.int v :: .ref (G 61) :: st) := by
  refine v_put hX hd in_X8 tyX8 tyX8_ok nmX8 cl_0 j hj hlink (fun _ h => h) hfin hp rfl rfl hw.1 (by rw [tfs_len]; exact hj) (kk _ ?_)
  refine hw.obj ?_ ?_ rfl
  · unfold tval; rw [hk]; show Value.int _ = Value.int _; rw [show (sI x j v).1 j = v from pk_us]
  · intro i _ hi
    unfold tval
    rw [show (sI x j v).1 i = x.1 i from pk_un hi]
    rfl
theorem tv_putL {v : Int64} (hX : OK X cc RX8 nL RM) (hd : decode cc pc = .ok (.putfield index, 3)) (hw : tW (xG X) G wB x w) (j : Nat) (hj : j < 61) (hk : tkl.getD j 0 = 1) (hlink : Cond.fieldLink RX8 index (TX8 j).1 (TX8 j).2.1 (TX8 j).2.2.1 ∈ lw_all) (hfin : (TX8 j).2.2.2 = false) (hp : parseFieldDescriptor (TX8 j).2.2.1 = some .long) (kk : ∀ w, tW (xG X) G wB (sL x j v) w → V X w k n (pc + 3) lv st) : V X w k n pc lv (.long v :: .ref (G 61) :: st) := by
  refine v_put hX hd in_X8 tyX8 tyX8_ok nmX8 cl_0 j hj hlink (fun _ h => h) hfin hp rfl rfl hw.1 (by rw [tfs_len]; exact hj) (kk _ ?_)
  refine hw.obj ?_ ?_ rfl
  · unfold tval; rw [hk]; show Value.long _ = Value.long _; rw [show (sL x j v).2.1 j = v from pk_uLs]
  · intro i _ hi
    unfold tval
    rw [show (sL x j v).2.1 i = x.2.1 i from pk_uLn hi]
    rfl
theorem tW.at {Γ : Gm} (hw : tW Γ G wB x w) {j t N : Nat} (hj : j < 61) (ht : tti.getD j 9 = t) (h8 : t < 8) (h3 : t ≠ 3) (hN : tln.getD j 0 = N) : w (G j) = some (true, .inl (Γ.2.1 t, N, .inl (x.2.2.1 j))) := by
  rw [hw.2.1 j hj (by rw [ht]; exact h8)]
  unfold tcell
  rw [ht, if_neg h3, hN]
theorem tW.at3 {Γ : Gm} (hw : tW Γ G wB x w) {j N : Nat} (hj : j < 61) (ht : tti.getD j 9 = 3) (hN : tln.getD j 0 = N) : w (G j) = some (true, .inl (Γ.2.1 3, N, .inr (.inl (x.2.2.2 j)))) := by
  rw [hw.2.1 j hj (by rw [ht]; decide)]
  unfold tcell
  rw [ht, if_pos rfl, hN]
theorem tW.setA {Γ : Gm} (hw : tW Γ G wB x w) {j t N : Nat} (hj : j < 61) (ht : tti.getD j 9 = t) (h8 : t < 8) (h3 : t ≠ 3) (hN : tln.getD j 0 = N) (f : Nat → Int32) : tW Γ G wB (sA x j f) (wup w (G j) (true, .inl (Γ.2.1 t, N, .inl f))) := by
  refine hw.arr hj (by rw [ht]; exact h8) ?_ ?_ rfl rfl
  · unfold tcell
    rw [ht, if_neg h3, hN, show (sA x j f).2.2.1 j = f from va_up_self ..]
  · intro i _ hi
    unfold tcell
    rw [show (sA x j f).2.2.1 i = x.2.2.1 i from if_neg hi]
    rfl
theorem tW.setB {Γ : Gm} (hw : tW Γ G wB x w) {j N : Nat} (hj : j < 61) (ht : tti.getD j 9 = 3) (hN : tln.getD j 0 = N) (f : Nat → Int64) : tW Γ G wB (sB x j f) (wup w (G j) (true, .inl (Γ.2.1 3, N, .inr (.inl f)))) := by
  refine hw.arr hj (by rw [ht]; decide) ?_ ?_ rfl rfl
  · unfold tcell
    rw [ht, if_pos rfl, hN, show (sB x j f).2.2.2 j = f from va_up_self ..]
  · intro i _ hi
    unfold tcell
    rw [show (sB x j f).2.2.2 i = x.2.2.2 i from if_neg hi]
    rfl
theorem tv_iald {i : Int32} (hX : OK X cc RX8 nL RM) (hd : decode cc pc = .ok (.iaload, 1)) (hw : tW (xG X) G wB x w) {j N : Nat} (hj : j < 61) (ht : tti.getD j 9 = 0) (hN : tln.getD j 0 = N) (hi : vp_in i N) (kk : V X w k n (pc + 1) lv (.int (x.2.2.1 j i.toNatClampNeg) :: st)) : V X w k n pc lv (.int i :: .ref (G j) :: st) :=
  v_iald hX hd (hw.at hj ht (by decide) (by decide) hN) hi kk
theorem tv_iast {i z : Int32} (hX : OK X cc RX8 nL RM) (hd : decode cc pc = .ok (.iastore, 1)) (hw : tW (xG X) G wB x w) {j N : Nat} (hj : j < 61) (ht : tti.getD j 9 = 0) (hN : tln.getD j 0 = N) (hi : vp_in i N) (kk : ∀ w, tW (xG X) G wB (tU x j i z) w → V X w k n (pc + 1) lv st) : V X w k n pc lv (.int z :: .int i :: .ref (G j) :: st) :=
  v_iast hX hd (hw.at hj ht (by decide) (by decide) hN) hi (kk _ (hw.setA hj ht (by decide) (by decide) hN _))
theorem tv_bald {i : Int32} (hX : OK X cc RX8 nL RM) (hd : decode cc pc = .ok (.baload, 1)) (hw : tW (xG X) G wB x w) {j N : Nat} (hj : j < 61) (ht : tti.getD j 9 = 1) (hN : tln.getD j 0 = N) (hi : vp_in i N) (kk : V X w k n (pc + 1) lv (.int (x.2.2.1 j i.toNatClampNeg) :: st)) : V X w k n pc lv (.int i :: .ref (G j) :: st) :=
  v_bald hX hd (hw.at hj ht (by decide) (by decide) hN) hi kk
theorem tv_bast {i z : Int32} (hX : OK X cc RX8 nL RM) (hd : decode cc pc = .ok (.bastore, 1)) (hw : tW (xG X) G wB x w) {j N : Nat} (hj : j < 61) (ht : tti.getD j 9 = 1) (hN : tln.getD j 0 = N) (hi : vp_in i N) (kk : ∀ w, tW (xG X) G wB (tU x j i (vp_nar .byte z)) w → V X w k n (pc + 1) lv st) : V X w k n pc lv (.int z :: .int i :: .ref (G j) :: st) :=
  v_bast hX hd (hw.at hj ht (by decide) (by decide) hN) hi (kk _ (hw.setA hj ht (by decide) (by decide) hN _))
theorem tv_cald {i : Int32} (hX : OK X cc RX8 nL RM) (hd : decode cc pc = .ok (.caload, 1)) (hw : tW (xG X) G wB x w) {j N : Nat} (hj : j < 61) (ht : tti.getD j 9 = 2) (hN : tln.getD j 0 = N) (hi : vp_in i N) (kk : V X w k n (pc + 1) lv (.int (x.2.2.1 j i.toNatClampNeg) :: st)) : V X w k n pc lv (.int i :: .ref (G j) :: st) :=
  v_cald hX hd (hw.at hj ht (by decide) (by decide) hN) hi kk
theorem tv_cast {i z : Int32} (hX : OK X cc RX8 nL RM) (hd : decode cc pc = .ok (.castore, 1)) (hw : tW (xG X) G wB x w) {j N : Nat} (hj : j < 61) (ht : tti.getD j 9 = 2) (hN : tln.getD j 0 = N) (hi : vp_in i N) (kk : ∀ w, tW (xG X) G wB (tU x j i (vp_nar .char z)) w → V X w k n (pc + 1) lv st) : V X w k n pc lv (.int z :: .int i :: .ref (G j) :: st) :=
  v_cast hX hd (hw.at hj ht (by decide) (by decide) hN) hi (kk _ (hw.setA hj ht (by decide) (by decide) hN _))
theorem tv_lald {i : Int32} (hX : OK X cc RX8 nL RM) (hd : decode cc pc = .ok (.laload, 1)) (hw : tW (xG X) G wB x w) {j N : Nat} (hj : j < 61) (ht : tti.getD j 9 = 3) (hN : tln.getD j 0 = N) (hi : vp_in i N) (kk : V X w k n (pc + 1) lv (.long (x.2.2.2 j i.toNatClampNeg) :: st)) : V X w k n pc lv (.int i :: .ref (G j) :: st) :=
  v_lald hX hd (hw.at3 hj ht hN) hi kk
theorem tv_last {i : Int32} {z : Int64} (hX : OK X cc RX8 nL RM) (hd : decode cc pc = .ok (.lastore, 1)) (hw : tW (xG X) G wB x w) {j N : Nat} (hj : j < 61) (ht : tti.getD j 9 = 3) (hN : tln.getD j 0 = N) (hi : vp_in i N) (kk : ∀ w, tW (xG X) G wB (tV x j i z) w → V X w k n (pc + 1) lv st) : V X w k n pc lv (.long z :: .int i :: .ref (G j) :: st) :=
  v_last hX hd (hw.at3 hj ht hN) hi (kk _ (hw.setB hj ht hN _))
end TROWS
section TCALLS
variable {X : Cx} {w wB : Wd} {k n pc nL : Nat} {lv lv' : List (Option Value)} {st rest : List Value} {cc bytes : ByteArray} {own : String} {RM : Room} {y : MethodName} {maxL index na : Nat} {ret : Option FieldType} {rm : Room} {av : List Value} {r : Value} {G : Nat → Nat} {x x' : TS}
theorem tv_callR (hX : OK X cc own nL RM) (hnl : lv.length = nL) (hd : decode cc pc = .ok (.invokevirtual index, 3)) (q1 : Cond.methodLink own index y ∈ lw_all) (cf : CF RX8 y bytes maxL ret na) (hw : tW (xG X) G wB x w) (hM : MRd (xG X) (xl X) y (ws_ y bytes maxL ret) rm (.ref (G 61) :: av) w r) (hna : av.length = na) (hm : rm.cells = 0 ∧ rm.slots = 0) (hR : rm.frames + 1 ≤ RM.frames ∧ 8 + (maxL + 11) + rm.locals ≤ RM.locals) (hst : av.reverse ++ .ref (G 61) :: rest = st) (hc8 : (rest.map fun v => v.category).sum ≤ 8) (hf : k ≤ RM.cells ∧ n ≤ RM.slots) (kk : V X w k n (pc + 3) lv (r :: rest)) : V X w k n pc lv st :=
  v_callV hX hnl hd hM cl_0 hw.1 q1 cf.1 cf.2.1 cf.2.2.1 cf.2.2.2.1 hm (by rw [hna]; exact cf.2.2.2.2) hR hst hc8 hf (fun v w' h => by obtain ⟨rfl, rfl⟩ := h; exact kk)
theorem tv_callV (hX : OK X cc own nL RM) (hnl : lv.length = nL) (hd : decode cc pc = .ok (.invokevirtual index, 3)) (q1 : Cond.methodLink own index y ∈ lw_all) (cf : CF RX8 y bytes maxL ret na) (hw : tW (xG X) G wB x w) (hM : M0 (xG X) (xl X) y (ws_ y bytes maxL ret) rm 0 0 (.ref (G 61) :: av) w (fun v w' => v = some r ∧ tW (xG X) G wB x' w')) (hna : av.length = na) (hm : rm.cells = 0 ∧ rm.slots = 0) (hR : rm.frames + 1 ≤ RM.frames ∧ 8 + (maxL + 11) + rm.locals ≤ RM.locals) (hst : av.reverse ++ .ref (G 61) :: rest = st) (hc8 : (rest.map fun v => v.category).sum ≤ 8) (hf : k ≤ RM.cells ∧ n ≤ RM.slots) (kk : ∀ w, tW (xG X) G wB x' w → V X w k n (pc + 3) lv (r :: rest)) : V X w k n pc lv st :=
  v_callV hX hnl hd hM cl_0 hw.1 q1 cf.1 cf.2.1 cf.2.2.1 cf.2.2.2.1 hm (by rw [hna]; exact cf.2.2.2.2) hR hst hc8 hf (fun v w' h => by obtain ⟨rfl, h⟩ := h; exact kk w' h)
theorem tv_call0 (hX : OK X cc own nL RM) (hnl : lv.length = nL) (hd : decode cc pc = .ok (.invokevirtual index, 3)) (q1 : Cond.methodLink own index y ∈ lw_all) (cf : CF RX8 y bytes maxL ret na) (hw : tW (xG X) G wB x w) (hM : M0 (xG X) (xl X) y (ws_ y bytes maxL ret) rm 0 0 (.ref (G 61) :: av) w (fun v w' => v = none ∧ tW (xG X) G wB x' w')) (hna : av.length = na) (hm : rm.cells = 0 ∧ rm.slots = 0) (hR : rm.frames + 1 ≤ RM.frames ∧ 8 + (maxL + 11) + rm.locals ≤ RM.locals) (hst : av.reverse ++ .ref (G 61) :: rest = st) (hc8 : (rest.map fun v => v.category).sum ≤ 8) (hf : k ≤ RM.cells ∧ n ≤ RM.slots) (kk : ∀ w, tW (xG X) G wB x' w → V X w k n (pc + 3) lv rest) : V X w k n pc lv st :=
  v_callV hX hnl hd hM cl_0 hw.1 q1 cf.1 cf.2.1 cf.2.2.1 cf.2.2.2.1 hm (by rw [hna]; exact cf.2.2.2.2) hR hst hc8 hf (fun v w' h => by obtain ⟨rfl, h⟩ := h; exact kk w' h)
end TCALLS
