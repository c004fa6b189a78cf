/-! the twin: load -/
noncomputable section
set_option maxRecDepth 100000
def tB16 (x : TS) : Prop := (x.1 16).toNatClampNeg ≤ 700 ∧ x.1 16 = nI (x.1 16).toNatClampNeg
def tw_ld0 (x : TS) : TS := tw_tok (tw_br (sI (sI (sI (sI (sI x 0 0) 20 (x.1 16)) 16 0) 21 0) 26 (-1)))
def tw_ldk (y : TS) : Int32 × TS := if y.1 26 = -1 then (tG (tw_keep y) 8, tw_keep y) else (0, sI y 0 1)
def tw_load (x : TS) : Int32 × TS := tw_ldk ((fun y => sI y 17 (y.1 26)) (it tw_ld1 701 (tw_ld0 x)))
theorem br_j {x : TS} {j : Nat} (h1 : j ≠ 27) (h2 : j ≠ 28) : (tw_br x).1 j = x.1 j := by
  rw [tw_br_eq]
  have h : (it tw_br1 70 (sI (sI x 27 0) 28 0)).1 j = (sI (sI x 27 0) 28 0).1 j := it_keep (f := tw_br1) (fun y : TS => y.1 j) (fun _ _ => rfl) 70 _
  refine h.trans ?_
  rw [sI_n h2, sI_n h1]
theorem br_27 {x : TS} : (tw_br x).1 27 = 0 := by
  rw [tw_br_eq]
  have h : (it tw_br1 70 (sI (sI x 27 0) 28 0)).1 27 = (sI (sI x 27 0) 28 0).1 27 := it_keep (f := tw_br1) (fun y : TS => y.1 27) (fun _ _ => rfl) 70 _
  refine h.trans ?_
  rw [sI_n (by decide), sI_s]
theorem br_28 {x : TS} : (tw_br x).1 28 = 0 := by
  rw [tw_br_eq]
  have h : (it tw_br1 70 (sI (sI x 27 0) 28 0)).1 28 = (sI (sI x 27 0) 28 0).1 28 := it_keep (f := tw_br1) (fun y : TS => y.1 28) (fun _ _ => rfl) 70 _
  refine h.trans ?_
  rw [sI_s]
theorem tU_at {x : TS} {j : Nat} {i v : Int32} {k : Nat} : (tU x j i v).2.2.1 j k = if k = i.toNatClampNeg then v else x.2.2.1 j k := by
  show va_up x.2.2.1 j _ j k = _
  rw [va_up_self]; rfl
theorem br1_at {x : TS} : ∀ n, n ≤ 70 → ∀ k, k < n → (it tw_br1 n x).2.2.1 1 (70 + k) = 0 := by
  intro n
  induction n with
  | zero => intro _ k hk; omega
  | succ n ih =>
    intro hn k hk
    show (tU (it tw_br1 n x) 1 (70 + nI n) 0).2.2.1 1 (70 + k) = 0
    rw [tU_at]
    split
    · rfl
    · rename_i c
      refine ih (by omega) k ?_
      have e : (70 + nI n : Int32).toNatClampNeg = 70 + n := clamp_nI (by rw [show (70 : Int32) = nI 70 from rfl, nI_add]) (by omega)
      omega
theorem br_R {x : TS} : tR (tw_br x) := by
  have e1 : (tw_br x).1 27 = nI 0 := br_27
  have e2 : (tw_br x).1 28 = nI 0 := br_28
  have e3 : (tw_br x).2.2.1 1 78 = nI 0 := by
    rw [tw_br_eq]
    rw [tU_at, if_neg (by decide), tU_at, if_neg (by decide), tU_at, if_neg (by decide), tU_at, if_neg (by decide), tU_at, if_neg (by decide), tU_at, if_neg (by decide)]
    exact br1_at 70 (Nat.le_refl _) 8 (by decide)
  have f1 : np (tw_br x) = 0 := clamp_nI e1 (by decide)
  have f2 : nw (tw_br x) = 0 := clamp_nI e2 (by decide)
  have f3 : nbt (tw_br x) = 0 := clamp_nI e3 (by decide)
  exact ⟨by omega, by rw [f1]; exact e1, by omega, by rw [f2]; exact e2, by omega, by rw [f3]; exact e3⟩
theorem ld0_X {x : TS} (h : tB16 x) : tX (tw_br (sI (sI (sI (sI (sI x 0 0) 20 (x.1 16)) 16 0) 21 0) 26 (-1))) := by
  have e20 : (tw_br (sI (sI (sI (sI (sI x 0 0) 20 (x.1 16)) 16 0) 21 0) 26 (-1))).1 20 = nI (x.1 16).toNatClampNeg := by
    rw [br_j (by decide) (by decide), sI_n (by decide), sI_n (by decide), sI_n (by decide), sI_s]; exact h.2
  have e21 : (tw_br (sI (sI (sI (sI (sI x 0 0) 20 (x.1 16)) 16 0) 21 0) 26 (-1))).1 21 = nI 0 := by
    rw [br_j (by decide) (by decide), sI_n (by decide), sI_s]; rfl
  have h1 := h.1
  have f1 := clamp_nI e20 (by omega)
  have f2 := clamp_nI e21 (by decide)
  refine ⟨?_, ?_, ?_, ?_⟩
  · unfold tl; rw [f1]; exact h1
  · unfold tl; rw [f1]; exact e20
  · unfold tp; rw [f2]; exact Nat.zero_le _
  · unfold tp; rw [f2]; exact e21
theorem ld0_RX {x : TS} (h : tB16 x) : tRX (tw_ld0 x) := ⟨tok_X (ld0_X h), tok_T (ld0_X h), br_R.rd tok_Rd⟩
theorem rpn_2 {i lo hi : Int32} {x : TS} : (tw_rpn i lo hi x).1 2 = x.1 2 := val_j (by decide) (by decide) (by decide) (by decide) (by decide)
theorem stmt_2 {x : TS} : (tw_stmt x).1 2 = x.1 2 := by
  rw [tw_stmt_eq]
  rw [go_j (by decide) (by decide) (by decide) (by decide) (by decide), must_j (by decide), tw_st1_eq]
  repeat' split
  · unfold tw_rp tw_rp4 tw_rp2 tw_rp1
    split
    · unfold tw_rp5 tw_rp6
      split
      · rw [sI_n (by decide), rpn_2, rpn_2, rpn_2, rpn_2, rpn_2, rpn_2, tok_j (by decide) (by decide) (by decide) (by decide)]
        show (tw_must _ (tw_go (tw_must _ x))).1 2 = _
        rw [must_j (by decide), go_j (by decide) (by decide) (by decide) (by decide) (by decide), must_j (by decide)]
      · rw [rpn_2, rpn_2, rpn_2, rpn_2, rpn_2, rpn_2, tok_j (by decide) (by decide) (by decide) (by decide)]
        show (tw_must _ (tw_go (tw_must _ x))).1 2 = _
        rw [must_j (by decide), go_j (by decide) (by decide) (by decide) (by decide) (by decide), must_j (by decide)]
    · rw [must_j (by decide), go_j (by decide) (by decide) (by decide) (by decide) (by decide), must_j (by decide)]
  · unfold tw_rv tw_rv2
    split
    · show (tw_val _ _ _).2.1 2 = _
      rw [val_j (by decide) (by decide) (by decide) (by decide) (by decide)]
      exact (go_j (by decide) (by decide) (by decide) (by decide) (by decide)).trans (must_j (by decide))
    · rw [val_j (by decide) (by decide) (by decide) (by decide) (by decide)]
      exact (go_j (by decide) (by decide) (by decide) (by decide) (by decide)).trans (must_j (by decide))
  · unfold tw_rb tw_rb6 tw_rb5 tw_rb4 tw_rb3
    split
    · show (tw_val _ _ _).2.1 2 = _
      rw [val_j (by decide) (by decide) (by decide) (by decide) (by decide), val_j (by decide) (by decide) (by decide) (by decide) (by decide)]
      exact (go_j (by decide) (by decide) (by decide) (by decide) (by decide)).trans ((must_j (by decide)).trans ((go_j (by decide) (by decide) (by decide) (by decide) (by decide)).trans (must_j (by decide))))
    · rw [val_j (by decide) (by decide) (by decide) (by decide) (by decide), val_j (by decide) (by decide) (by decide) (by decide) (by decide)]
      exact (go_j (by decide) (by decide) (by decide) (by decide) (by decide)).trans ((must_j (by decide)).trans ((go_j (by decide) (by decide) (by decide) (by decide) (by decide)).trans (must_j (by decide))))
  · unfold tw_ro tw_ro1 tw_ro2
    split
    · rw [tok_j (by decide) (by decide) (by decide) (by decide)]
      show (tw_must _ _).1 2 = _
      rw [must_j (by decide), tok_j (by decide) (by decide) (by decide) (by decide)]
    · rw [must_j (by decide), tok_j (by decide) (by decide) (by decide) (by decide)]
  · exact must_j (by decide)
  · unfold tw_rs tw_rs1 tw_rs2
    split
    · show (tw_val _ _ _).2.1 2 = _
      rw [val_j (by decide) (by decide) (by decide) (by decide) (by decide), tok_j (by decide) (by decide) (by decide) (by decide)]
    · rw [val_j (by decide) (by decide) (by decide) (by decide) (by decide), tok_j (by decide) (by decide) (by decide) (by decide)]
theorem ld_2 (x : TS) : ∀ n, (it tw_ld1 n x).1 2 = x.1 2 := fun n => it_keep (fun y : TS => y.1 2) (fun i y => by
  show (tw_ld1 i y).1 2 = y.1 2
  unfold tw_ld1
  repeat' split
  · rfl
  · exact stmt_2
  · rfl) n x
end
