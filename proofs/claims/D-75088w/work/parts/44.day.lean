/-! THE DAY: the world of one Day: its object (place 19 of G) and its arrays (place of the field); the plan stands in wB -/
set_option maxRecDepth 100000
abbrev DS : Type := (Nat → Int32) × (Nat → Nat) × (Nat → Nat → Int32)
def dti : List Nat := [0, 0, 0, 0, 0, 0, 0, 0, 0, 0, 0, 4, 0, 0, 0, 0, 0, 0, 0]
def dln : List Nat := [20, 20, 20, 20, 20, 20, 20, 20, 20, 20, 20, 20, 3, 3, 3, 3, 4, 4, 4]
def dfs (G : Nat → Nat) (x : DS) : List Value := [.ref (G 0), .ref (G 1), .ref (G 2), .ref (G 3), .ref (G 4), .ref (G 5), .ref (G 6), .ref (G 7), .ref (G 8), .ref (G 9), .ref (G 10), .ref (G 11), .ref (G 12), .ref (G 13), .ref (G 14), .ref (G 15), .ref (G 16), .ref (G 17), .ref (G 18), .int (x.1 19), .int (x.1 20), .int (x.1 21), .ref (x.2.1 22), .ref (x.2.1 23)]
def dcell (Γ : Gm) (x : DS) (j : Nat) : va_E := .inl (Γ.2.1 (dti.getD j 9), dln.getD j 0, .inl (x.2.2 j))
/-- the world w: the day at G in the state x; all else as wB says, which has nothing of the day -/
def dW (Γ : Gm) (G : Nat → Nat) (wB : Wd) (x : DS) (w : Wd) : Prop := w (G 19) = some (true, .inr (3, dfs G x)) ∧ (∀ j, j < 19 → w (G j) = some (true, dcell Γ x j)) ∧ (∀ a, (∀ j, j < 20 → a ≠ G j) → w a = wB a) ∧ (∀ i j, i < 20 → j < 20 → G i = G j → i = j) ∧ ∀ j, j < 20 → wB (G j) = none
def eI (x : DS) (j : Nat) (v : Int32) : DS := (upd x.1 j v, x.2)
def eR (x : DS) (j : Nat) (v : Nat) : DS := (x.1, va_up x.2.1 j v, x.2.2)
def eA (x : DS) (j : Nat) (f : Nat → Int32) : DS := (x.1, x.2.1, va_up x.2.2 j f)
def eU (x : DS) (j : Nat) (i v : Int32) : DS := eA x j (upd (x.2.2 j) i.toNatClampNeg v)
abbrev eG (x : DS) (j : Nat) (i : Int32) : Int32 := x.2.2 j i.toNatClampNeg
theorem dW.rd {Γ : Gm} {G : Nat → Nat} {wB : Wd} {x : DS} {w : Wd} (h : dW Γ G wB x w) {a : Nat} {q : Bool × va_E} (ha : wB a = some q) : w a = some q := by
  rw [h.2.2.1 a (fun j hj e => by rw [e, h.2.2.2.2 j hj] at ha; cases ha)]; exact ha
theorem dW.obj {Γ : Gm} {G : Nat → Nat} {wB : Wd} {x x' : DS} {w : Wd} (h : dW Γ G wB x w) (h3 : x'.2.2 = x.2.2) : dW Γ G wB x' (wup w (G 19) (true, .inr (3, dfs G x'))) := by
  refine ⟨wup_s, fun i hi => ?_, fun a ha => ?_, h.2.2.2⟩
  · have hne : G i ≠ G 19 := fun e => by
      have := h.2.2.2.1 i 19 (by omega) (by decide) e
      omega
    rw [wup_n hne, h.2.1 i hi]
    unfold dcell
    rw [h3]
  · rw [wup_n (ha 19 (by decide)), h.2.2.1 a ha]
theorem dW.arr {Γ : Gm} {G : Nat → Nat} {wB : Wd} {x : DS} {w : Wd} (h : dW Γ G wB x w) {j : Nat} (hj : j < 19) (f : Nat → Int32) : dW Γ G wB (eA x j f) (wup w (G j) (true, .inl (Γ.2.1 (dti.getD j 9), dln.getD j 0, .inl f))) := by
  refine ⟨?_, fun i hi => ?_, fun a ha => ?_, h.2.2.2⟩
  · have hne : G 19 ≠ G j := fun e => by
      have := h.2.2.2.1 19 j (by decide) (by omega) e
      omega
    rw [wup_n hne, h.1]; rfl
  · by_cases e : i = j
    · subst e; rw [wup_s]; unfold dcell; rw [show (eA x i f).2.2 i = f from va_up_self ..]
    · have hne : G i ≠ G j := fun q => e (h.2.2.2.1 i j (by omega) (by omega) q)
      rw [wup_n hne, h.2.1 i hi]; unfold dcell; rw [show (eA x j f).2.2 i = x.2.2 i from if_neg e]
  · rw [wup_n (ha j (by omega)), h.2.2.1 a ha]
theorem dW.at {Γ : Gm} {G : Nat → Nat} {wB : Wd} {x : DS} {w : Wd} (h : dW Γ G wB x w) {j t N : Nat} (hj : j < 19) (ht : dti.getD j 9 = t) (hN : dln.getD j 0 = N) : w (G j) = some (true, .inl (Γ.2.1 t, N, .inl (x.2.2 j))) := by
  rw [h.2.1 j hj]; unfold dcell; rw [ht, hN]
theorem dW.to {Γ : Gm} {G : Nat → Nat} {wB : Wd} {x y : DS} {w : Wd} (h : dW Γ G wB x w) (e : x = y) : dW Γ G wB y w := by subst e; exact h
section DROWS
variable {X : Cx} {w wB : Wd} {k n pc nL : Nat} {lv : List (Option Value)} {st : List Value} {cc : ByteArray} {G : Nat → Nat} {x : DS} {index : Nat} {RM : Room} {own : String}
theorem dv_get {v : Value} (hX : OK X cc RX3 nL RM) (hd : decode cc pc = .ok (.getfield index, 3)) (hw : dW (xG X) G wB x w) (j : Nat) (hj : j < 24) (hlink : Cond.fieldLink RX3 index (TX3 j).1 (TX3 j).2.1 (TX3 j).2.2.1 ∈ lw_all) (hv : (dfs G x)[j]? = some v) (kk : V X w k n (pc + 3) lv (v :: st)) : V X w k n pc lv (.ref (G 19) :: st) :=
  v_get hX hd in_X3 cl_3 j hj hlink (fun _ h => h) hw.1 hv kk
theorem dv_put {v : Value} {x' : DS} (hX : OK X cc RX3 nL RM) (hd : decode cc pc = .ok (.putfield index, 3)) (hw : dW (xG X) G wB x w) (j : Nat) (hj : j < 24) (hlink : Cond.fieldLink RX3 index (TX3 j).1 (TX3 j).2.1 (TX3 j).2.2.1 ∈ lw_all) (hfin : (TX3 j).2.2.2 = false) (hn : narrow (tyX3 j) v = v) (hfit : fits (tyX3 j) v = true) (hs : (dfs G x).set j v = dfs G x') (h3 : x'.2.2 = x.2.2) (kk : ∀ w, dW (xG X) G wB x' w → V X w k n (pc + 3) lv st) : V X w k n pc lv (v :: .ref (G 19) :: st) :=
  v_putw hX hd in_X3 tyX3 tyX3_ok nmX3 cl_3 j hj hlink (fun _ h => h) hfin (tyX3_ok j hj) hn hfit hw.1 (show j < 24 from hj) hs (kk _ (hw.obj h3))

theorem dv_iald {i : Int32} (hX : OK X cc own nL RM) (hd : decode cc pc = .ok (.iaload, 1)) (hw : dW (xG X) G wB x w) {j N : Nat} (hj : j < 19) (ht : dti.getD j 9 = 0) (hN : dln.getD j 0 = N) (hi : vp_in i N) (kk : V X w k n (pc + 1) lv (.int (eG x j i) :: st)) : V X w k n pc lv (.int i :: .ref (G j) :: st) :=
  v_iald hX hd (hw.at hj ht hN) hi kk
theorem dv_iast {i z : Int32} (hX : OK X cc own nL RM) (hd : decode cc pc = .ok (.iastore, 1)) (hw : dW (xG X) G wB x w) {j N : Nat} (hj : j < 19) (ht : dti.getD j 9 = 0) (hN : dln.getD j 0 = N) (hi : vp_in i N) (kk : ∀ w, dW (xG X) G wB (eU x j i z) w → V X w k n (pc + 1) lv st) : V X w k n pc lv (.int z :: .int i :: .ref (G j) :: st) :=
  v_iast hX hd (hw.at hj ht hN) hi (kk _ (by have := hw.arr hj (upd (x.2.2 j) i.toNatClampNeg z); rw [ht, hN] at this; exact this))
theorem dv_zald {i : Int32} (hX : OK X cc own nL RM) (hd : decode cc pc = .ok (.baload, 1)) (hw : dW (xG X) G wB x w) {j N : Nat} (hj : j < 19) (ht : dti.getD j 9 = 4) (hN : dln.getD j 0 = N) (hi : vp_in i N) (kk : V X w k n (pc + 1) lv (.int (eG x j i) :: st)) : V X w k n pc lv (.int i :: .ref (G j) :: st) :=
  v_zald hX hd (hw.at hj ht hN) hi kk
theorem dv_zast {i z : Int32} (hX : OK X cc own nL RM) (hd : decode cc pc = .ok (.bastore, 1)) (hw : dW (xG X) G wB x w) {j N : Nat} (hj : j < 19) (ht : dti.getD j 9 = 4) (hN : dln.getD j 0 = N) (hi : vp_in i N) (kk : ∀ w, dW (xG X) G wB (eU x j i (vp_nar .boolean z)) w → V X w k n (pc + 1) lv st) : V X w k n pc lv (.int z :: .int i :: .ref (G j) :: st) :=
  v_zast hX hd (hw.at hj ht hN) hi (kk _ (by have := hw.arr hj (upd (x.2.2 j) i.toNatClampNeg (vp_nar .boolean z)); rw [ht, hN] at this; exact this))
end DROWS
section DCALLS
variable {X : Cx} {w wB : Wd} {k n pc nL : Nat} {lv lv' : List (Option Value)} {st rest : List Value} {cc bytes : ByteArray} {own : String} {RM : Room} {y : MethodName} {maxL index na : Nat} {ret : Option FieldType} {rm : Room} {av : List Value} {r : Value} {G : Nat → Nat} {x x' : DS}
theorem dv_callR (hX : OK X cc own nL RM) (hnl : lv.length = nL) (hd : decode cc pc = .ok (.invokevirtual index, 3)) (q1 : Cond.methodLink own index y ∈ lw_all) (cf : CF RX3 y bytes maxL ret na) (hw : dW (xG X) G wB x w) (hM : MRd (xG X) (xl X) y (ws_ y bytes maxL ret) rm (.ref (G 19) :: av) w r) (hna : av.length = na) (hm : rm.cells = 0 ∧ rm.slots = 0) (hR : rm.frames + 1 ≤ RM.frames ∧ 8 + (maxL + 11) + rm.locals ≤ RM.locals) (hst : av.reverse ++ .ref (G 19) :: rest = st) (hc8 : (rest.map fun v => v.category).sum ≤ 8) (hf : k ≤ RM.cells ∧ n ≤ RM.slots) (kk : V X w k n (pc + 3) lv (r :: rest)) : V X w k n pc lv st :=
  v_callV hX hnl hd hM cl_3 hw.1 q1 cf.1 cf.2.1 cf.2.2.1 cf.2.2.2.1 hm (by rw [hna]; exact cf.2.2.2.2) hR hst hc8 hf (fun v w' h => by obtain ⟨rfl, rfl⟩ := h; exact kk)
theorem dv_call0 (hX : OK X cc own nL RM) (hnl : lv.length = nL) (hd : decode cc pc = .ok (.invokevirtual index, 3)) (q1 : Cond.methodLink own index y ∈ lw_all) (cf : CF RX3 y bytes maxL ret na) (hw : dW (xG X) G wB x w) (hM : M0 (xG X) (xl X) y (ws_ y bytes maxL ret) rm 0 0 (.ref (G 19) :: av) w (fun v w' => v = none ∧ dW (xG X) G wB x' w')) (hna : av.length = na) (hm : rm.cells = 0 ∧ rm.slots = 0) (hR : rm.frames + 1 ≤ RM.frames ∧ 8 + (maxL + 11) + rm.locals ≤ RM.locals) (hst : av.reverse ++ .ref (G 19) :: rest = st) (hc8 : (rest.map fun v => v.category).sum ≤ 8) (hf : k ≤ RM.cells ∧ n ≤ RM.slots) (kk : ∀ w, dW (xG X) G wB x' w → V X w k n (pc + 3) lv rest) : V X w k n pc lv st :=
  v_callV hX hnl hd hM cl_3 hw.1 q1 cf.1 cf.2.1 cf.2.2.1 cf.2.2.2.1 hm (by rw [hna]; exact cf.2.2.2.2) hR hst hc8 hf (fun v w' h => by obtain ⟨rfl, h⟩ := h; exact kk w' h)
end DCALLS
theorem shR.day {Γ : Gm} {G : Nat → Nat} {wB : Wd} {x : DS} {w : Wd} {S : Sh} (h : shR Γ S wB) (hw : dW Γ G wB x w) : shR Γ S w := h.fr (fun a ha => by obtain ⟨q, e⟩ := h.has ha; rw [hw.rd e, e])
theorem plO.day {Γ : Gm} {G : Nat → Nat} {wB : Wd} {x : DS} {w : Wd} {S : Sh} {p : Nat} {P : Pl} (h : plO Γ S p P wB) (hw : dW Γ G wB x w) : plO Γ S p P w := h.fr (fun a ha => by obtain ⟨q, e⟩ := h.has ha; rw [hw.rd e, e])
