/-! calls through an interface that land in a default method -/
set_option maxRecDepth 100000
section VD
variable {p : Program} {l : Launch} {e : Env} {R : Room} {s : State} {m : MethodId} {args : Array Value} {below : List Frame} {meth : Method} {c : Code} {H : Heap} {locs : List Loc} {cells slots : Nat}
theorem va_runD {x y : MethodName} {bytes cc : ByteArray} {maxL nL mc ms n index count : Nat} {ret : Option FieldType} {ws ws' : List Cond} {rm : Room} {Pc : Array Value → State → Prop} {Qc : Array Value → State → Outcome → State → Prop} {free : Addr → Prop} {Ts : List Cond} {own C : String} {cC : ClassId} {b : Addr} {As rest : List Value} {g : JFrame}
    (hat : ClassAt s C cC) (S : CallFix p m c cc nL s args Ts own) (hM : Met l y ws rm Pc Qc mc ms free) (hG : GoodIn Ts ws) (hw : ws = Cond.code y bytes maxL ret :: ws') (hrc : rm.cells = mc) (hrs : rm.slots = ms) (hR : rm.frames + 1 ≤ R.frames ∧ 8 + (maxL + 11) + rm.locals ≤ R.locals) (hF : va_Fw C x y s) (hl : va_Nw (.landsInDefault C x y) s) (hlink : (Cond.methodLink own index x).before args s = true) (hinst : (Cond.instanceMethod y).before args s = true) (hini : (Cond.initialized y.cls).before args s = true)
    (hd : x.cls ≠ "java/lang/invoke/MethodHandle" ∧ x.cls ≠ "java/lang/invoke/VarHandle" ∧ (parseMethodDescriptor x.desc).map (fun d => d.parameters.length) = some n) (hp : PreV s H C b Pc As)
    (hg : g.method = m) (hn : As.length = n) (hsize : g.locals.size = nL) (hstack : g.stack = As.reverse ++ .ref b :: rest) (hW : 2 * g.monitorRoom + (rest.map fun v => v.category).sum ≤ 8) (hdg : decode cc g.pc = .ok (.invokeinterface index count, 5)) (hf : cells + mc ≤ R.cells ∧ slots + ms ≤ R.slots) :
    va_Run5 p l e R s m args below meth c H locs cells slots mc ms g rest (Qc (Value.ref b :: As).toArray) (free) := by
  have hts := S.2.2.2.2
  have hcw : Cond.code y bytes maxL ret ∈ ws := by rw [hw]; exact List.mem_cons_self
  have hK : Back l R p e below s args y 5 8 (PreOf R mc ms Pc) (PostOf Qc mc ms free) := back_of (bytes := bytes) (maxL := maxL) (ret := ret) hM hp.1 hrc hrs hR.1 hR.2 (pay_in hts hG) hcw (fun a' U hW => word_at hW (Or.inl (by first | rfl | simp [Cond.onTables, Cond.keeps, Cond.steady])) hini)
  obtain ⟨hx, hb, hml, ho, -⟩ := S
  obtain ⟨-, ⟨cellB, hcB, hoB, hclB⟩, hPc⟩ := hp
  obtain ⟨hfc, kB, hkB, -⟩ := hat
  cases hfc.symm.trans hclB
  intro T hT X
  obtain ⟨v, vm₁, ⟨U', l2, c2, s2⟩, hW₁, X', ⟨g', mk, t, L, e1, e2, hq, h1, hL, h2, h3⟩, st⟩ := Stand.interfaceBackD X hx (C := C) ho hlink (va_any rfl hF.1) (va_any rfl hF.2.1) (va_Nl rfl hl) hinst (va_any rfl hF.2.2.1) (va_any rfl hF.2.2.2.2) ⟨hd.1, hd.2.1⟩ hK hclB hkB ⟨cellB, by rw [hT]; exact hcB, rfl, hoB⟩ hg (hsize.trans hml.symm) (Steps.refl _) (argsL := As) (rest := rest) (fun sig h => by have h2 := hd.2.2; rw [h] at h2; exact hn.trans (Option.some.inj h2).symm) hstack hW (by rw [hb]; exact hdg)
    (fun vm₁ hW₁ => ⟨hf.1, hf.2, hPc (T.setVm vm₁) hT hW₁⟩)
  dsimp only [Pt.U, Pt.locs, Pt.cells, Pt.slots] at X' e1 e2 h1 h2 h3 st
  subst h1; subst h2; subst h3
  exact ⟨v, (T.setVm vm₁).calling g' mk (Value.ref b :: As).toArray, t, U', L, hT, X', hL, e1, e2, hq, fun target ht => st.trans ht⟩
end VD
section VDC
variable {X : Cx} {w W' : Wd} {k n pc nL mc ms na : Nat} {lv lv' : List (Option Value)} {st rest : List Value} {cc bytes : ByteArray} {own : String} {RM : Room} {y : MethodName} {maxL index : Nat} {ret : Option FieldType} {rm : Room} {av : List Value} {r : Value} {post : Option Value → Wd → Prop}
theorem v_callD {count ci x N : Nat} {T : u_T} {t : Bool} {fs : List Value} {C : String} (hX : OK X cc own nL RM) (hnl : lv.length = nL) (hd : decode cc pc = .ok (.invokeinterface index count, 5)) (hg : gC (xG X)) (q1 : Cond.methodLink own index y ∈ lw_all) (cg : CG y bytes maxL ret na) (hF : (C, y, y) ∈ gF) (hL : (C, y) ∈ gL) (hc : vwCl[ci]? = some (C, T, N)) (he : w x = some (t, .inr (ci, fs))) (hM : M0 (xG X) (xl X) y (ws_ y bytes maxL ret) rm mc ms (.ref x :: av) w post) (hna : av.length = na) (hm : rm.cells = mc ∧ rm.slots = ms)
    (hR : rm.frames + 1 ≤ RM.frames ∧ 8 + (maxL + 11) + rm.locals ≤ RM.locals) (hst : av.reverse ++ .ref x :: rest = st) (hc8 : (rest.map fun v => v.category).sum ≤ 8) (hf : k + mc ≤ RM.cells ∧ n + ms ≤ RM.slots)
    (kk : ∀ (v : Option Value) (w' : Wd), post v w' → V X w' (k + mc) (n + ms) (pc + 5) lv (v.toList ++ rest)) : V X w k n pc lv st := by
  intro H locs ls a b c d
  obtain ⟨hA, hU⟩ := w_pre (av := .ref x :: av) hX a b c
  subst hst
  have hRM : xR X = RM := hX.2.2.2.2.2.2.2
  rw [← hRM] at hR hf
  refine w_after5 hX a b c d (va_runD (cC := (xG X).1.1 ci) (As := av) (rest := rest) (hX.2.1.1 ci _ hc).2 hX.1 (hM H.size) (lw_meth cg.2.2.1) rfl hm.1 hm.2 hR ((hX.gn hg).2.2.1 _ hF) ((hX.gn hg).2.2.2 _ hL) (hX.1.2.2.2.2 _ q1) (hX.1.2.2.2.2 _ cg.1) (hX.1.2.2.2.2 _ cg.2.1) (by rw [hna]; exact cg.2.2.2) ⟨RU.blind, va_recv hX.2.1 (w_one a he) hc (q0 := 0) rfl, hU⟩ rfl rfl (d.1.trans hnl) rfl ?_ hd hf) kk
  exact lv_room hc8
theorem v_cDe {count ci x N : Nat} {T : u_T} {t : Bool} {fs : List Value} {C : String} (hX : OK X cc own nL RM) (hnl : lv.length = nL) (hd : decode cc pc = .ok (.invokeinterface index count, 5)) (hg : gC (xG X)) (q1 : Cond.methodLink own index y ∈ lw_all) (cg : CG y bytes maxL ret na) (hF : (C, y, y) ∈ gF) (hL : (C, y) ∈ gL) (hc : vwCl[ci]? = some (C, T, N)) (he : w x = some (t, .inr (ci, fs))) (hM : M0 (xG X) (xl X) y (ws_ y bytes maxL ret) rm mc ms (.ref x :: av) w (fun v w' => v = some r ∧ w' = W')) (hna : av.length = na) (hm : rm.cells = mc ∧ rm.slots = ms)
    (hR : rm.frames + 1 ≤ RM.frames ∧ 8 + (maxL + 11) + rm.locals ≤ RM.locals) (hst : av.reverse ++ .ref x :: rest = st) (hc8 : (rest.map fun v => v.category).sum ≤ 8) (hf : k + mc ≤ RM.cells ∧ n + ms ≤ RM.slots)
    (kk : V X W' (k + mc) (n + ms) (pc + 5) lv (r :: rest)) : V X w k n pc lv st :=
  v_callD hX hnl hd hg q1 cg hF hL hc he hM hna hm hR hst hc8 hf (fun v w' h => by obtain ⟨rfl, rfl⟩ := h; exact kk)
end VDC
