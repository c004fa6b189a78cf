/-! the twin: texts, all statements -/
noncomputable section
set_option maxRecDepth 100000
/-- the place goes on, or the token stays, or the text is at its end -/
def prog (x y : TS) : Prop := tp x ≤ tp y ∧ (tp x < tp y ∨ y.1 23 = x.1 23 ∨ y.1 23 = 0)
theorem prog.rf {x : TS} : prog x x := ⟨Nat.le_refl _, Or.inr (Or.inl rfl)⟩
theorem prog.tr {x y z : TS} (h1 : prog x y) (h2 : prog y z) : prog x z := by
  refine ⟨Nat.le_trans h1.1 h2.1, ?_⟩
  have := h1.1
  have := h2.1
  rcases h1.2 with a | a | a
  · exact Or.inl (by omega)
  · rcases h2.2 with b | b | b
    · exact Or.inl (by omega)
    · exact Or.inr (Or.inl (b.trans a))
    · exact Or.inr (Or.inr b)
  · rcases h2.2 with b | b | b
    · exact Or.inl (by omega)
    · exact Or.inr (Or.inr (b.trans a))
    · exact Or.inr (Or.inr b)
theorem prog.of {x y : TS} (e1 : y.1 21 = x.1 21) (e2 : y.1 23 = x.1 23) : prog x y := ⟨by unfold tp; rw [e1]; exact Nat.le_refl _, Or.inr (Or.inl e2)⟩
theorem must_prog {b : Int32} {x : TS} : prog x (tw_must b x) := prog.of (must_j (by decide)) (must_j (by decide))
theorem tp_of {y : TS} {j : Nat} (h : y.1 21 = nI j) (hj : j ≤ 100000) : tp y = j := clamp_nI h hj
theorem run_pos {p : Nat → Prop} [DecidablePred p] {f s : Nat} (h : p s) : 1 ≤ run p (f + 1) s := by rw [run, if_pos h]; omega
theorem tk2_prog {x : TS} (hT : tX x) : tp x < tp (tw_tk2 x) ∨ ((tw_tk2 x).1 23 = 0 ∧ tp (tw_tk2 x) = tp x) := by
  have h1 := hT.1
  have h3 := hT.2.2.1
  unfold tw_tk2
  repeat' split
  · rename_i c
    left
    obtain ⟨a1, a2, a3⟩ := adv rw1_adv (tw_wl x) (sL x 25 0)
    have hle := (wl_out hT).2
    have e : (tw_rw x).1 21 = nI (tp x + tw_wl x) := by
      show (sI _ 23 _).1 21 = _; rw [sI_n (by decide), a3]; show x.1 21 + _ = _; rw [hT.2.2.2, nI_add]
    rw [tp_of e (by omega)]
    rw [hT.2.2.2] at c
    have hp : 1 ≤ tw_wl x := run_pos (f := 700) (s := tp x) (p := fun j => tlet x (nI j)) c
    omega
  · rename_i c
    left
    obtain ⟨a1, a2, a3⟩ := adv rn1_adv (tw_nl x) (sI x 24 0)
    have hle := (nl_out hT).2
    have e : (tw_rn x).1 21 = nI (tp x + tw_nl x) := by
      show (sI _ 23 _).1 21 = _; rw [sI_n (by decide), a3]; show x.1 21 + _ = _; rw [hT.2.2.2, nI_add]
    rw [tp_of e (by omega)]
    rw [hT.2.2.2] at c
    have hp : 1 ≤ tw_nl x := run_pos (f := 700) (s := tp x) (p := fun j => tdig x (nI j)) c
    omega
  · left
    rw [tp_of (y := tw_adv (sI x 23 3)) (j := tp x + 1) (by show x.1 21 + 1 = _; rw [hT.2.2.2, nI_1]) (by omega)]
    omega
  · left
    rw [tp_of (y := tw_adv (sI x 23 4)) (j := tp x + 1) (by show x.1 21 + 1 = _; rw [hT.2.2.2, nI_1]) (by omega)]
    omega
  · right
    exact ⟨sI_s, rfl⟩
theorem tok_prog {x : TS} (hT : tX x) : prog x (tw_tok x) := by
  rw [tw_tok_eq]
  have h1 := tw_skip_X hT
  obtain ⟨a1, a2, a3⟩ := adv sk_adv (tw_skl x) x
  have hle := (skl_out hT).2
  have h0 := hT.1
  have e : tp (tw_skip x) = tp x + tw_skl x := tp_of (by show (it _ _ x).1 21 = _; rw [a3, hT.2.2.2, nI_add]) (by omega)
  have h2 : tX (sI (tw_skip x) 22 ((tw_skip x).1 21)) := tX_sI h1 (by decide) (by decide)
  have e2 : tp (sI (tw_skip x) 22 ((tw_skip x).1 21)) = tp (tw_skip x) := rfl
  have h3 := tk2_prog h2
  rw [e2] at h3
  show prog x (tw_tk2 (sI (tw_skip x) 22 ((tw_skip x).1 21)))
  rcases h3 with q | q
  · exact ⟨by omega, Or.inl (by omega)⟩
  · exact ⟨by omega, Or.inr (Or.inr q.1)⟩
theorem go_prog {x : TS} (hT : tX x) : prog x (tw_go x) := by
  rw [tw_go_eq]
  split
  · exact tok_prog hT
  · exact prog.rf
theorem val_prog {lo hi : Int32} {x : TS} (hT : tX x) : prog x (tw_val lo hi x).2 := by
  rw [tw_val_eq]; unfold tw_val2
  split
  · exact must_prog.tr (tok_prog (must_X hT))
  · exact must_prog
theorem rpn_prog {i lo hi : Int32} {x : TS} (h : tRX x) : prog x (tw_rpn i lo hi x) := (val_prog h.1).tr (prog.of rfl rfl)
theorem rp_prog {x : TS} (h : tRX x) : prog x (tw_rp x) := by
  unfold tw_rp tw_rp4
  have h2 : tRX (tw_rp2 (tw_rp1 x)) := h.must.go.must
  have p2 : prog x (tw_rp2 (tw_rp1 x)) := must_prog.tr ((go_prog h.must.1).tr must_prog)
  generalize tw_rp2 (tw_rp1 x) = y at h2 p2
  split
  · unfold tw_rp5
    have h3 : tRX (tw_tok (tV y 30 (y.1 27) (y.2.1 25))) := h2.v.tok
    have p3 : prog x (tw_tok (tV y 30 (y.1 27) (y.2.1 25))) := p2.tr ((prog.of rfl rfl).tr (tok_prog h2.v.1))
    generalize tw_tok (tV y 30 (y.1 27) (y.2.1 25)) = z at h3 p3
    have p9 := p3.tr ((rpn_prog (i := 6 * y.1 27) (lo := 0) (hi := 9) h3).tr ((rpn_prog (i := 6 * y.1 27 + 1) (lo := 1) (hi := 60) h3.rpn).tr ((rpn_prog (i := 6 * y.1 27 + 2) (lo := 1) (hi := 240) h3.rpn.rpn).tr ((rpn_prog (i := 6 * y.1 27 + 3) (lo := 0) (hi := 120) h3.rpn.rpn.rpn).tr ((rpn_prog (i := 6 * y.1 27 + 4) (lo := 1) (hi := 120) h3.rpn.rpn.rpn.rpn).tr (rpn_prog (i := 6 * y.1 27 + 5) (lo := 100) (hi := 300) h3.rpn.rpn.rpn.rpn.rpn))))))
    unfold tw_rp6
    split
    · exact p9.tr (prog.of rfl rfl)
    · exact p9
  · exact p2
theorem rv_prog {x : TS} (h : tRX x) : prog x (tw_rv x) := by
  unfold tw_rv
  have p2 : prog x (tw_val (tw_rvf (tw_rv1 x)) 1439 (tw_rv1 x)).2 := must_prog.tr ((go_prog h.must.1).tr (val_prog h.must.go.1))
  generalize (tw_val (tw_rvf (tw_rv1 x)) 1439 (tw_rv1 x)).1 = v
  generalize (tw_val (tw_rvf (tw_rv1 x)) 1439 (tw_rv1 x)).2 = y at p2
  unfold tw_rv2
  split
  · exact p2.tr (prog.of rfl rfl)
  · exact p2
theorem rb_prog {x : TS} (h : tRX x) : prog x (tw_rb x) := by
  unfold tw_rb tw_rb6 tw_rb5 tw_rb4
  have h1 : tRX (tw_rb1 (tA x 1 78) x) := h.must.go
  have p1 : prog x (tw_rb1 (tA x 1 78) x) := must_prog.tr (go_prog h.must.1)
  generalize tw_rb1 (tA x 1 78) x = y1 at h1 p1
  generalize tw_ph y1 = p at *
  have h2 : tRX (tw_rb2 p y1) := h1.must.go
  have p2 : prog x (tw_rb2 p y1) := p1.tr (must_prog.tr (go_prog h1.must.1))
  generalize tw_rb2 p y1 = y2 at h2 p2
  have h3 : tRX (tw_val 0 999 y2).2 := h2.val
  have p3 : prog x (tw_val 0 999 y2).2 := p2.tr (val_prog h2.1)
  generalize (tw_val 0 999 y2).1 = st
  generalize (tw_val 0 999 y2).2 = y3 at h3 p3
  have p4 : prog x (tw_val 0 (y3.1 28 - 1) y3).2 := p3.tr (val_prog h3.1)
  generalize (tw_val 0 (y3.1 28 - 1) y3).1 = v
  generalize (tw_val 0 (y3.1 28 - 1) y3).2 = y4 at p4
  unfold tw_rb3
  split
  · exact p4.tr (prog.of rfl rfl)
  · exact p4
theorem rs_prog {x : TS} {i : Int32} (h : tRX x) : prog x (tw_rs i x) := by
  unfold tw_rs tw_rs1
  have p2 : prog x (tw_val (tw_least i) (tw_greatest i) (tw_tok x)).2 := (tok_prog h.1).tr (val_prog h.tok.1)
  generalize (tw_val (tw_least i) (tw_greatest i) (tw_tok x)).1 = v
  generalize (tw_val (tw_least i) (tw_greatest i) (tw_tok x)).2 = y at p2
  unfold tw_rs2
  split
  · exact p2.tr (prog.of rfl rfl)
  · exact p2
theorem ro_prog {x : TS} (h : tRX x) : prog x (tw_ro x) := by
  unfold tw_ro tw_ro1
  have h1 := h.tok
  have p1 := tok_prog h.1
  generalize tw_tok x = y at h1 p1
  have h2 : tRX (tw_must (bi (¬ tw_polH y = -1)) y) := h1.must
  have p2 : prog x (tw_must (bi (¬ tw_polH y = -1)) y) := p1.tr must_prog
  generalize tw_must (bi (¬ tw_polH y = -1)) y = z at h2 p2
  unfold tw_ro2
  split
  · exact p2.tr ((prog.of rfl rfl).tr (tok_prog h2.1.u))
  · exact p2
theorem st1_prog {x : TS} (h : tRX x) : prog x (tw_st1 x) := by
  rw [tw_st1_eq]
  repeat' split
  · exact rp_prog h
  · exact rv_prog h
  · exact rb_prog h
  · exact ro_prog h
  · exact must_prog
  · exact rs_prog h
theorem setH_no {x : TS} (h : ¬ x.1 23 = 1) : tw_setH x = -1 := by
  unfold tw_setH
  repeat rw [if_neg (fun q => h q.1)]
theorem st1_no {x : TS} (h : ¬ x.1 23 = 1) : tw_st1 x = tw_must 0 x := by
  rw [tw_st1_eq]
  rw [if_neg (fun q => h q.1), if_neg (fun q => h q.1), if_neg (fun q => h q.1), if_neg (fun q => h q.1), if_pos (setH_no h)]
/-- a statement that is well goes on -/
theorem stmt_prog {x : TS} (h : tRX x) (hw : (tw_stmt x).1 26 = -1) : tp x < tp (tw_stmt x) := by
  rw [tw_stmt_eq] at hw ⊢
  have w1 := must_w h.st1.2.1 (go_w hw)
  have e3 := bi_n0.mp w1.1
  have p1 := st1_prog h
  have p2 : prog x (tw_go (tw_must (bi ((tw_st1 x).1 23 = 3)) (tw_st1 x))) := p1.tr (must_prog.tr (go_prog h.st1.must.1))
  have p3 : prog (tw_st1 x) (tw_go (tw_must (bi ((tw_st1 x).1 23 = 3)) (tw_st1 x))) := must_prog.tr (go_prog h.st1.must.1)
  by_cases c : x.1 23 = 1
  · rcases p1.2 with q | q | q
    · exact Nat.lt_of_lt_of_le q p3.1
    · rw [e3, c] at q; exact absurd q (by decide)
    · rw [e3] at q; exact absurd q (by decide)
  · rw [st1_no c] at w1
    exact absurd rfl (must_w h.2.1 w1.2).1
def tw_ld1 (_ : Nat) (y : TS) : TS := if y.1 26 = -1 then if y.1 23 = 0 then y else tw_stmt y else y
theorem tRX.ld1 {x : TS} (h : tRX x) (i : Nat) : tRX (tw_ld1 i x) := by
  unfold tw_ld1
  repeat' split
  · exact h
  · exact h.stmt
  · exact h
theorem ld_prog {x : TS} (h : tRX x) : ∀ n, tRX (it tw_ld1 n x) ∧ ((¬ (it tw_ld1 n x).1 26 = -1 ∨ (it tw_ld1 n x).1 23 = 0) ∨ n ≤ tp (it tw_ld1 n x)) := by
  intro n
  induction n with
  | zero => exact ⟨h, Or.inr (Nat.zero_le _)⟩
  | succ n ih =>
    obtain ⟨ih1, ih2⟩ := ih
    show tRX (tw_ld1 n (it tw_ld1 n x)) ∧ ((¬ (tw_ld1 n (it tw_ld1 n x)).1 26 = -1 ∨ (tw_ld1 n (it tw_ld1 n x)).1 23 = 0) ∨ n + 1 ≤ tp (tw_ld1 n (it tw_ld1 n x)))
    refine ⟨ih1.ld1 n, ?_⟩
    generalize it tw_ld1 n x = y at ih1 ih2
    unfold tw_ld1
    split
    · rename_i c
      split
      · rename_i c2; exact Or.inl (Or.inr c2)
      · rename_i c2
        by_cases c3 : (tw_stmt y).1 26 = -1
        · right
          have := stmt_prog ih1 c3
          rcases ih2 with (q | q) | q
          · exact absurd c q
          · exact absurd q c2
          · omega
        · exact Or.inl (Or.inl c3)
    · rename_i c; exact Or.inl (Or.inl c)
theorem ld_end {x : TS} (h : tRX x) : ¬ (it tw_ld1 701 x).1 26 = -1 ∨ (it tw_ld1 701 x).1 23 = 0 := by
  obtain ⟨h1, h2⟩ := ld_prog h 701
  rcases h2 with q | q
  · exact q
  · have := h1.1.1
    have := h1.1.2.2.1
    omega
end
