/-! the twin: texts, a statement -/
noncomputable section
set_option maxRecDepth 100000
theorem lb98 : (Int8.ofInt (98)).toInt32 = 98 := by decide +kernel
theorem lb112 : (Int8.ofInt (112)).toInt32 = 112 := by decide +kernel
theorem lb121 : (Int8.ofInt (121)).toInt32 = 121 := by decide +kernel
theorem nI_lt8 {x : Int32} {n : Nat} {N : Nat} (e : x = nI n) (h : ¬ nI N ≤ x) (hn : n ≤ 100000) (hN : N ≤ 100000) : n < N := by
  rw [e] at h
  rcases Nat.lt_or_ge n N with z | z
  · exact z
  · exact absurd (nI_le z (by omega)) h
theorem tR.sp {x : TS} (h : tR x) (hn : np x < 8) {v : Int32} (hv : v = x.1 27 + 1) : tR (sI x 27 v) := by
  have e : v = nI (np x + 1) := by rw [hv, h.2.1, nI_1]
  have e2 : np (sI x 27 v) = np x + 1 := clamp_nI (x := (sI x 27 v).1 27) (sI_s.trans e) (by omega)
  refine ⟨by rw [e2]; omega, by rw [e2]; exact sI_s.trans e, ?_⟩
  exact (show tR (sI x 28 (x.1 28)) from h.of (sI_n (by decide)) sI_s rfl).2.2
theorem tR.sv {x : TS} (h : tR x) (hn : nw x < 6) {v : Int32} (hv : v = x.1 28 + 1) : tR (sI x 28 v) := by
  have e : v = nI (nw x + 1) := by rw [hv, h.2.2.2.1, nI_1]
  have e2 : nw (sI x 28 v) = nw x + 1 := clamp_nI (x := (sI x 28 v).1 28) (sI_s.trans e) (by omega)
  refine ⟨h.1, h.2.1, by rw [e2]; omega, by rw [e2]; exact sI_s.trans e, h.2.2.2.2⟩
theorem tRX.rp {x : TS} (h : tRX x) : tRX (tw_rp x) := by
  unfold tw_rp tw_rp4
  have h2 : tRX (tw_rp2 (tw_rp1 x)) := h.must.go.must
  have e27 : (tw_rp2 (tw_rp1 x)).1 27 = x.1 27 := rp_27
  have hb := fun q => rp2_w h q
  generalize tw_rp2 (tw_rp1 x) = y at h2 e27 hb
  split
  · rename_i c
    unfold tw_rp5
    have e3 : ∀ {z : TS} {i lo hi : Int32}, (tw_rpn i lo hi z).1 27 = z.1 27 := fun {z i lo hi} => val_j (by decide) (by decide) (by decide) (by decide) (by decide)
    have e4 : (tw_tok (tV y 30 (y.1 27) (y.2.1 25))).1 27 = y.1 27 := tok_j (by decide) (by decide) (by decide) (by decide)
    have h3 : tRX (tw_tok (tV y 30 (y.1 27) (y.2.1 25))) := h2.v.tok
    generalize tw_tok (tV y 30 (y.1 27) (y.2.1 25)) = z at h3 e4
    have h9 : tRX (tw_rpn (6 * y.1 27 + 5) 100 300 (tw_rpn (6 * y.1 27 + 4) 1 120 (tw_rpn (6 * y.1 27 + 3) 0 120 (tw_rpn (6 * y.1 27 + 2) 1 240 (tw_rpn (6 * y.1 27 + 1) 1 60 (tw_rpn (6 * y.1 27) 0 9 z)))))) := h3.rpn.rpn.rpn.rpn.rpn.rpn
    have e9 : (tw_rpn (6 * y.1 27 + 5) 100 300 (tw_rpn (6 * y.1 27 + 4) 1 120 (tw_rpn (6 * y.1 27 + 3) 0 120 (tw_rpn (6 * y.1 27 + 2) 1 240 (tw_rpn (6 * y.1 27 + 1) 1 60 (tw_rpn (6 * y.1 27) 0 9 z)))))).1 27 = x.1 27 := by rw [e3, e3, e3, e3, e3, e3, e4, e27]
    generalize tw_rpn (6 * y.1 27 + 5) 100 300 (tw_rpn (6 * y.1 27 + 4) 1 120 (tw_rpn (6 * y.1 27 + 3) 0 120 (tw_rpn (6 * y.1 27 + 2) 1 240 (tw_rpn (6 * y.1 27 + 1) 1 60 (tw_rpn (6 * y.1 27) 0 9 z))))) = u at h9 e9
    unfold tw_rp6
    split
    · refine ⟨tX_sI h9.1 (by decide) (by decide), h9.2.1, h9.2.2.sp ?_ rfl⟩
      have : np u = np x := by unfold np; rw [e9]
      rw [this]
      exact nI_lt8 h.2.2.2.1 (hb c) (Nat.le_trans h.2.2.1 (by decide)) (by decide)
    · exact h9
  · exact h2
theorem tRX.rv {x : TS} (h : tRX x) : tRX (tw_rv x) := by
  unfold tw_rv
  have h1 : tRX (tw_rv1 x) := h.must.go
  have h2 : tRX (tw_val (tw_rvf (tw_rv1 x)) 1439 (tw_rv1 x)).2 := h1.val
  have hb : (tw_val (tw_rvf (tw_rv1 x)) 1439 (tw_rv1 x)).2.1 26 = -1 → ¬ 6 ≤ x.1 28 := fun q => rv_w h q
  have e : (tw_val (tw_rvf (tw_rv1 x)) 1439 (tw_rv1 x)).2.1 28 = x.1 28 := rv_28
  generalize (tw_val (tw_rvf (tw_rv1 x)) 1439 (tw_rv1 x)).1 = v
  generalize (tw_val (tw_rvf (tw_rv1 x)) 1439 (tw_rv1 x)).2 = y at h2 hb e
  unfold tw_rv2
  split
  · rename_i c
    have h3 : tRX (tU y 31 (y.1 28) v) := h2.u (by decide)
    refine ⟨tX_sI h3.1 (by decide) (by decide), h3.2.1, h3.2.2.sv ?_ rfl⟩
    have : nw (tU y 31 (y.1 28) v) = nw x := by unfold nw; show (y.1 28).toNatClampNeg = _; rw [e]
    rw [this]
    exact nI_lt8 h.2.2.2.2.2.1 (hb c) (Nat.le_trans h.2.2.2.2.1 (by decide)) (by decide)
  · exact h2
theorem b79e {b i : Int32} (hb : vp_in b 20) (hi : vp_in i 3) : ∃ k : Nat, 79 + 3 * b + i = nI k ∧ k ≠ 78 ∧ k ≤ 100000 := by
  obtain ⟨j, hj, rfl⟩ := vp_in_of hi (by decide)
  obtain ⟨c, hc, rfl⟩ := vp_in_of hb (by decide)
  exact ⟨79 + 3 * c + j, by rw [show (79 : Int32) = nI 79 from rfl, show (3 : Int32) = nI 3 from rfl, pk_mul, nI_add, nI_add], by omega, by omega⟩
theorem tRX.row2 {x : TS} {i v : Int32} (h : tRX x) (hi : ∃ k : Nat, i = nI k ∧ k ≠ 78 ∧ k ≤ 100000) : tRX (tU x 1 i v) := by
  obtain ⟨k, rfl, h1, h2⟩ := hi
  exact h.row h1 h2
theorem tRX.n78 {x : TS} {v : Int32} {k : Nat} (h : tRX x) (e : v = nI k) (hk : k ≤ 20) : tRX (tU x 1 78 v) := by
  refine ⟨h.1.u, h.2.1.u, ?_⟩
  have e1 : (tU x 1 78 v).2.2.1 1 78 = nI k := by
    show va_up x.2.2.1 1 (upd (x.2.2.1 1) (78 : Int32).toNatClampNeg v) 1 78 = _
    rw [va_up_self, show (78 : Int32).toNatClampNeg = 78 from rfl, pk_us, e]
  have e2 : nbt (tU x 1 78 v) = k := clamp_nI e1 (by omega)
  exact ⟨h.2.2.1, h.2.2.2.1, h.2.2.2.2.1, h.2.2.2.2.2.1, by rw [e2]; exact hk, by rw [e2]; exact e1⟩
theorem tRX.rb {x : TS} (h : tRX x) : tRX (tw_rb x) := by
  unfold tw_rb tw_rb6 tw_rb5 tw_rb4
  have h1 : tRX (tw_rb1 (tA x 1 78) x) := h.must.go
  have hb := fun p lo hi lo2 hi2 => rb_w (p := p) (lo := lo) (hi := hi) (lo2 := lo2) (hi2 := hi2) h
  generalize tw_rb1 (tA x 1 78) x = y1 at h1 hb
  generalize tw_ph y1 = p at *
  have h2 : tRX (tw_rb2 p y1) := h1.must.go
  have hb := hb p
  generalize tw_rb2 p y1 = y2 at h2 hb
  have h3 : tRX (tw_val 0 999 y2).2 := h2.val
  have hb := fun lo hi => hb lo hi 0 999
  generalize (tw_val 0 999 y2).1 = st
  generalize (tw_val 0 999 y2).2 = y3 at h3 hb
  have h4 : tRX (tw_val 0 (y3.1 28 - 1) y3).2 := h3.val
  have hb := hb 0 (y3.1 28 - 1)
  generalize (tw_val 0 (y3.1 28 - 1) y3).1 = v
  generalize (tw_val 0 (y3.1 28 - 1) y3).2 = y4 at h4 hb
  unfold tw_rb3
  split
  · rename_i c
    have hlt := nb_lt h.2.2 (hb c)
    have e : tA x 1 78 = nI (nbt x) := h.2.2.2.2.2.2.2
    have hlt2 : nbt x < 20 := nI_lt8 e (hb c) (Nat.le_trans h.2.2.2.2.2.2.1 (by decide)) (by decide)
    exact (((h4.row2 (b79e hlt (vin (by decide)))).row2 (b79e hlt (vin (by decide)))).row2 (b79e hlt (vin (by decide)))).n78 (k := nbt x + 1) (by rw [e, nI_1]) hlt2
  · exact h4
theorem tRX.rs {x : TS} (h : tRX x) {i : Int32} (hi : vp_in i 7) : tRX (tw_rs i x) := by
  unfold tw_rs tw_rs1
  have h2 : tRX (tw_val (tw_least i) (tw_greatest i) (tw_tok x)).2 := h.tok.val
  generalize (tw_val (tw_least i) (tw_greatest i) (tw_tok x)).1 = v
  generalize (tw_val (tw_least i) (tw_greatest i) (tw_tok x)).2 = y at h2
  unfold tw_rs2
  split
  · obtain ⟨j, hj, rfl⟩ := vp_in_of hi (by decide)
    exact h2.row2 ⟨70 + j, by rw [show (70 : Int32) = nI 70 from rfl, nI_add], by omega, by omega⟩
  · exact h2
theorem tRX.ro {x : TS} (h : tRX x) : tRX (tw_ro x) := by
  unfold tw_ro tw_ro1
  have h1 := h.tok
  generalize tw_tok x = y at h1
  have h2 : tRX (tw_must (bi (¬ tw_polH y = -1)) y) := h1.must
  generalize tw_must (bi (¬ tw_polH y = -1)) y = z at h2
  unfold tw_ro2
  split
  · exact (h2.row2 ⟨77, rfl, by decide, by decide⟩).tok
  · exact h2
def tw_st1_d (x : TS) : TS := if tw_is x (tw_spell 112 114 111 100 117 99 116) then tw_rp x else if tw_is x (tw_spell 119 97 118 101 0 0 0) then tw_rv x else if tw_is x (tw_spell 98 97 116 99 104 0 0) then tw_rb x else if tw_is x (tw_spell 112 111 108 105 99 121 0) then tw_ro x else if tw_setH x = -1 then tw_must 0 x else tw_rs (tw_setH x) x
theorem tw_st1_ex : ∃ g : TS → TS, ∀ x, g x = tw_st1_d x := ⟨tw_st1_d, fun _ => rfl⟩
noncomputable def tw_st1 : TS → TS := Classical.choose tw_st1_ex
theorem tw_st1_eq (x : TS) : tw_st1 x = if tw_is x (tw_spell 112 114 111 100 117 99 116) then tw_rp x else if tw_is x (tw_spell 119 97 118 101 0 0 0) then tw_rv x else if tw_is x (tw_spell 98 97 116 99 104 0 0) then tw_rb x else if tw_is x (tw_spell 112 111 108 105 99 121 0) then tw_ro x else if tw_setH x = -1 then tw_must 0 x else tw_rs (tw_setH x) x := Classical.choose_spec tw_st1_ex x
def tw_stmt_d (x : TS) : TS := tw_go (tw_must (bi ((tw_st1 x).1 23 = 3)) (tw_st1 x))
theorem tw_stmt_ex : ∃ g : TS → TS, ∀ x, g x = tw_stmt_d x := ⟨tw_stmt_d, fun _ => rfl⟩
noncomputable def tw_stmt : TS → TS := Classical.choose tw_stmt_ex
theorem tw_stmt_eq (x : TS) : tw_stmt x = tw_go (tw_must (bi ((tw_st1 x).1 23 = 3)) (tw_st1 x)) := Classical.choose_spec tw_stmt_ex x
theorem tRX.st1 {x : TS} (h : tRX x) : tRX (tw_st1 x) := by
  rw [tw_st1_eq]
  repeat' split
  · exact h.rp
  · exact h.rv
  · exact h.rb
  · exact h.ro
  · exact h.must
  · rename_i c
    exact h.rs ((setH_ok x).resolve_left c)
theorem tRX.stmt {x : TS} (h : tRX x) : tRX (tw_stmt x) := by rw [tw_stmt_eq]; exact h.st1.must.go
theorem cf_X8_readStatement : CF RX8 yX8_readStatement cX8_readStatement 1 none 0 := ⟨q2158, qs50, q150, q2159, by decide +kernel⟩
theorem mX8_readStatement {Γ : Gm} {l : Launch} {G : Nat → Nat} {wB : Wd} {x : TS} {w : Wd} (hw : tW Γ G wB x w) (hx : tRX x) : M0 Γ l yX8_readStatement (ws_ yX8_readStatement cX8_readStatement 1 none) (rl 6 0 0) 0 0 [.ref (G 61)] w (fun r9 w9 => r9 = none ∧ tW Γ G wB (tw_stmt x) w9) := by
  refine M0.of (lv := [some (.ref (G 61))]) (by decide) (Nat.le_of_ble_eq_true rfl) 0 rfl rfl ?_
  intro X hX hR hl hG hnm
  subst hl; subst hG
  refine v_aload_n hX dX8_readStatement_0 rfl ?_
  refine v_bipush hX dX8_readStatement_1 lb112 ?_
  refine v_bipush hX dX8_readStatement_3 lb114 ?_
  refine v_bipush hX dX8_readStatement_5 lb111 ?_
  refine v_bipush hX dX8_readStatement_7 lb100 ?_
  refine v_bipush hX dX8_readStatement_9 lb117 ?_
  refine v_bipush hX dX8_readStatement_11 lb99 ?_
  refine v_bipush hX dX8_readStatement_13 lb116 ?_
  refine v_callSr hX rfl dX8_readStatement_15 q2160 cs_X8_spelled (mX8_spelled _ _ _ _ _ _ _) rfl ⟨rfl, rfl⟩ ⟨Nat.le_of_ble_eq_true rfl, Nat.le_of_ble_eq_true rfl⟩ rfl (Nat.le_of_ble_eq_true rfl) ⟨Nat.le_of_ble_eq_true rfl, Nat.le_of_ble_eq_true rfl⟩ ?_
  refine tv_callR hX rfl dX8_readStatement_18 q2167 cf_X8_isWord hw (mX8_isWord hw _) rfl ⟨rfl, rfl⟩ ⟨Nat.le_of_ble_eq_true rfl, Nat.le_of_ble_eq_true rfl⟩ rfl (Nat.le_of_ble_eq_true rfl) ⟨Nat.le_of_ble_eq_true rfl, Nat.le_of_ble_eq_true rfl⟩ ?_
  refine v_ifb_eq (tgt := 31) hX dX8_readStatement_21 rfl (fun c_21 => ?_) (fun c_21 => ?_)
  · refine v_aload_n hX dX8_readStatement_31 rfl ?_
    refine tv_callR hX rfl dX8_readStatement_32 q2191 cf_X8_isWaveWord hw (mX8_isWaveWord hw) rfl ⟨rfl, rfl⟩ ⟨Nat.le_of_ble_eq_true rfl, Nat.le_of_ble_eq_true rfl⟩ rfl (Nat.le_of_ble_eq_true rfl) ⟨Nat.le_of_ble_eq_true rfl, Nat.le_of_ble_eq_true rfl⟩ ?_
    refine v_ifb_eq (tgt := 45) hX dX8_readStatement_35 rfl (fun c_35 => ?_) (fun c_35 => ?_)
    · refine v_aload_n hX dX8_readStatement_45 rfl ?_
      refine v_bipush hX dX8_readStatement_46 lb98 ?_
      refine v_bipush hX dX8_readStatement_48 lb97 ?_
      refine v_bipush hX dX8_readStatement_50 lb116 ?_
      refine v_bipush hX dX8_readStatement_52 lb99 ?_
      refine v_bipush hX dX8_readStatement_54 lb104 ?_
      refine v_iconst hX dX8_readStatement_56 li0 ?_
      refine v_iconst hX dX8_readStatement_57 li0 ?_
      refine v_callSr hX rfl dX8_readStatement_58 q2160 cs_X8_spelled (mX8_spelled _ _ _ _ _ _ _) rfl ⟨rfl, rfl⟩ ⟨Nat.le_of_ble_eq_true rfl, Nat.le_of_ble_eq_true rfl⟩ rfl (Nat.le_of_ble_eq_true rfl) ⟨Nat.le_of_ble_eq_true rfl, Nat.le_of_ble_eq_true rfl⟩ ?_
      refine tv_callR hX rfl dX8_readStatement_61 q2167 cf_X8_isWord hw (mX8_isWord hw _) rfl ⟨rfl, rfl⟩ ⟨Nat.le_of_ble_eq_true rfl, Nat.le_of_ble_eq_true rfl⟩ rfl (Nat.le_of_ble_eq_true rfl) ⟨Nat.le_of_ble_eq_true rfl, Nat.le_of_ble_eq_true rfl⟩ ?_
      refine v_ifb_eq (tgt := 74) hX dX8_readStatement_64 rfl (fun c_64 => ?_) (fun c_64 => ?_)
      · refine v_aload_n hX dX8_readStatement_74 rfl ?_
        refine v_bipush hX dX8_readStatement_75 lb112 ?_
        refine v_bipush hX dX8_readStatement_77 lb111 ?_
        refine v_bipush hX dX8_readStatement_79 lb108 ?_
        refine v_bipush hX dX8_readStatement_81 lb105 ?_
        refine v_bipush hX dX8_readStatement_83 lb99 ?_
        refine v_bipush hX dX8_readStatement_85 lb121 ?_
        refine v_iconst hX dX8_readStatement_87 li0 ?_
        refine v_callSr hX rfl dX8_readStatement_88 q2160 cs_X8_spelled (mX8_spelled _ _ _ _ _ _ _) rfl ⟨rfl, rfl⟩ ⟨Nat.le_of_ble_eq_true rfl, Nat.le_of_ble_eq_true rfl⟩ rfl (Nat.le_of_ble_eq_true rfl) ⟨Nat.le_of_ble_eq_true rfl, Nat.le_of_ble_eq_true rfl⟩ ?_
        refine tv_callR hX rfl dX8_readStatement_91 q2167 cf_X8_isWord hw (mX8_isWord hw _) rfl ⟨rfl, rfl⟩ ⟨Nat.le_of_ble_eq_true rfl, Nat.le_of_ble_eq_true rfl⟩ rfl (Nat.le_of_ble_eq_true rfl) ⟨Nat.le_of_ble_eq_true rfl, Nat.le_of_ble_eq_true rfl⟩ ?_
        refine v_ifb_eq (tgt := 104) hX dX8_readStatement_94 rfl (fun c_94 => ?_) (fun c_94 => ?_)
        · refine v_aload_n hX dX8_readStatement_104 rfl ?_
          refine tv_callR hX rfl dX8_readStatement_105 q2211 cf_X8_settingHere hw (mX8_settingHere hw) rfl ⟨rfl, rfl⟩ ⟨Nat.le_of_ble_eq_true rfl, Nat.le_of_ble_eq_true rfl⟩ rfl (Nat.le_of_ble_eq_true rfl) ⟨Nat.le_of_ble_eq_true rfl, Nat.le_of_ble_eq_true rfl⟩ ?_
          refine v_iconst hX dX8_readStatement_108 lim1 ?_
          refine v_icmp_eq (tgt := 123) hX dX8_readStatement_109 rfl (fun c_109 => ?_) (fun c_109 => ?_)
          · refine v_aload_n hX dX8_readStatement_123 rfl ?_
            refine v_iconst hX dX8_readStatement_124 li0 ?_
            refine tv_call0 hX rfl dX8_readStatement_125 q2175 cf_X8_must hw (mX8_must hw _) rfl ⟨rfl, rfl⟩ ⟨Nat.le_of_ble_eq_true rfl, Nat.le_of_ble_eq_true rfl⟩ rfl (Nat.le_of_ble_eq_true rfl) ⟨Nat.le_of_ble_eq_true rfl, Nat.le_of_ble_eq_true rfl⟩ (fun w hw => ?_)
            obtain ⟨y, hy⟩ : ∃ z, z = tw_st1 x := ⟨_, rfl⟩
            have hw : tW (xG X) G wB y w := hw.to (hy.trans (by rw [tw_st1_eq, if_neg c_21, if_neg c_35, if_neg c_64, if_neg c_94, if_pos c_109]))
            have hry : tRX y := by rw [hy]; exact hx.st1
            refine v_aload_n hX dX8_readStatement_128 rfl ?_
            refine v_join 142 (.int (bi (y.1 23 = 3))) ?_ (fun hj => ?_)
            · refine tv_call0 hX rfl dX8_readStatement_142 q2175 cf_X8_must hw (mX8_must hw _) rfl ⟨rfl, rfl⟩ ⟨Nat.le_of_ble_eq_true rfl, Nat.le_of_ble_eq_true rfl⟩ rfl (Nat.le_of_ble_eq_true rfl) ⟨Nat.le_of_ble_eq_true rfl, Nat.le_of_ble_eq_true rfl⟩ (fun w hw => ?_)
              refine v_aload_n hX dX8_readStatement_145 rfl ?_
              refine tv_call0 hX rfl dX8_readStatement_146 q2179 cf_X8_goesOn hw (mX8_goesOn hw hry.must.1) rfl ⟨rfl, rfl⟩ ⟨Nat.le_of_ble_eq_true rfl, Nat.le_of_ble_eq_true rfl⟩ rfl (Nat.le_of_ble_eq_true rfl) ⟨Nat.le_of_ble_eq_true rfl, Nat.le_of_ble_eq_true rfl⟩ (fun w hw => ?_)
              exact v_vret hX dX8_readStatement_149 hR (Nat.le_of_ble_eq_true rfl) (Nat.le_of_ble_eq_true rfl) (⟨rfl, hw.to (by rw [tw_stmt_eq, ← hy])⟩)
            · refine v_aload_n hX dX8_readStatement_129 rfl ?_
              refine tv_getI hX dX8_readStatement_130 hw 23 (by decide) rfl q1932 ?_
              refine v_iconst hX dX8_readStatement_133 li3 ?_
              refine v_icmp_ne (tgt := 141) hX dX8_readStatement_134 rfl (fun c_134 => ?_) (fun c_134 => ?_)
              · refine v_iconst hX dX8_readStatement_141 li0 ?_
                exact V.at rfl rfl (by simp [bi, c_134]) hj
              · refine v_iconst hX dX8_readStatement_137 li1 ?_
                refine v_goto (tgt := 142) hX dX8_readStatement_138 rfl ?_
                exact V.at rfl rfl (by simp [bi, c_134]) hj
          · refine v_aload_n hX dX8_readStatement_112 rfl ?_
            refine v_aload_n hX dX8_readStatement_113 rfl ?_
            refine tv_callR hX rfl dX8_readStatement_114 q2211 cf_X8_settingHere hw (mX8_settingHere hw) rfl ⟨rfl, rfl⟩ ⟨Nat.le_of_ble_eq_true rfl, Nat.le_of_ble_eq_true rfl⟩ rfl (Nat.le_of_ble_eq_true rfl) ⟨Nat.le_of_ble_eq_true rfl, Nat.le_of_ble_eq_true rfl⟩ ?_
            refine tv_call0 hX rfl dX8_readStatement_117 q2215 cf_X8_readSetting hw (mX8_readSetting hw hx _ ((setH_ok x).resolve_left c_109)) rfl ⟨rfl, rfl⟩ ⟨Nat.le_of_ble_eq_true rfl, Nat.le_of_ble_eq_true rfl⟩ rfl (Nat.le_of_ble_eq_true rfl) ⟨Nat.le_of_ble_eq_true rfl, Nat.le_of_ble_eq_true rfl⟩ (fun w hw => ?_)
            refine v_goto (tgt := 128) hX dX8_readStatement_120 rfl ?_
            obtain ⟨y, hy⟩ : ∃ z, z = tw_st1 x := ⟨_, rfl⟩
            have hw : tW (xG X) G wB y w := hw.to (hy.trans (by rw [tw_st1_eq, if_neg c_21, if_neg c_35, if_neg c_64, if_neg c_94, if_neg c_109]))
            have hry : tRX y := by rw [hy]; exact hx.st1
            refine v_aload_n hX dX8_readStatement_128 rfl ?_
            refine v_join 142 (.int (bi (y.1 23 = 3))) ?_ (fun hj => ?_)
            · refine tv_call0 hX rfl dX8_readStatement_142 q2175 cf_X8_must hw (mX8_must hw _) rfl ⟨rfl, rfl⟩ ⟨Nat.le_of_ble_eq_true rfl, Nat.le_of_ble_eq_true rfl⟩ rfl (Nat.le_of_ble_eq_true rfl) ⟨Nat.le_of_ble_eq_true rfl, Nat.le_of_ble_eq_true rfl⟩ (fun w hw => ?_)
              refine v_aload_n hX dX8_readStatement_145 rfl ?_
              refine tv_call0 hX rfl dX8_readStatement_146 q2179 cf_X8_goesOn hw (mX8_goesOn hw hry.must.1) rfl ⟨rfl, rfl⟩ ⟨Nat.le_of_ble_eq_true rfl, Nat.le_of_ble_eq_true rfl⟩ rfl (Nat.le_of_ble_eq_true rfl) ⟨Nat.le_of_ble_eq_true rfl, Nat.le_of_ble_eq_true rfl⟩ (fun w hw => ?_)
              exact v_vret hX dX8_readStatement_149 hR (Nat.le_of_ble_eq_true rfl) (Nat.le_of_ble_eq_true rfl) (⟨rfl, hw.to (by rw [tw_stmt_eq, ← hy])⟩)
            · refine v_aload_n hX dX8_readStatement_129 rfl ?_
              refine tv_getI hX dX8_readStatement_130 hw 23 (by decide) rfl q1932 ?_
              refine v_iconst hX dX8_readStatement_133 li3 ?_
              refine v_icmp_ne (tgt := 141) hX dX8_readStatement_134 rfl (fun c_134 => ?_) (fun c_134 => ?_)
              · refine v_iconst hX dX8_readStatement_141 li0 ?_
                exact V.at rfl rfl (by simp [bi, c_134]) hj
              · refine v_iconst hX dX8_readStatement_137 li1 ?_
                refine v_goto (tgt := 142) hX dX8_readStatement_138 rfl ?_
                exact V.at rfl rfl (by simp [bi, c_134]) hj
        · refine v_aload_n hX dX8_readStatement_97 rfl ?_
          refine tv_call0 hX rfl dX8_readStatement_98 q2203 cf_X8_readPolicy hw (mX8_readPolicy hw hx) rfl ⟨rfl, rfl⟩ ⟨Nat.le_of_ble_eq_true rfl, Nat.le_of_ble_eq_true rfl⟩ rfl (Nat.le_of_ble_eq_true rfl) ⟨Nat.le_of_ble_eq_true rfl, Nat.le_of_ble_eq_true rfl⟩ (fun w hw => ?_)
          refine v_goto (tgt := 128) hX dX8_readStatement_101 rfl ?_
          obtain ⟨y, hy⟩ : ∃ z, z = tw_st1 x := ⟨_, rfl⟩
          have hw : tW (xG X) G wB y w := hw.to (hy.trans (by rw [tw_st1_eq, if_neg c_21, if_neg c_35, if_neg c_64, if_pos c_94]))
          have hry : tRX y := by rw [hy]; exact hx.st1
          refine v_aload_n hX dX8_readStatement_128 rfl ?_
          refine v_join 142 (.int (bi (y.1 23 = 3))) ?_ (fun hj => ?_)
          · refine tv_call0 hX rfl dX8_readStatement_142 q2175 cf_X8_must hw (mX8_must hw _) rfl ⟨rfl, rfl⟩ ⟨Nat.le_of_ble_eq_true rfl, Nat.le_of_ble_eq_true rfl⟩ rfl (Nat.le_of_ble_eq_true rfl) ⟨Nat.le_of_ble_eq_true rfl, Nat.le_of_ble_eq_true rfl⟩ (fun w hw => ?_)
            refine v_aload_n hX dX8_readStatement_145 rfl ?_
            refine tv_call0 hX rfl dX8_readStatement_146 q2179 cf_X8_goesOn hw (mX8_goesOn hw hry.must.1) rfl ⟨rfl, rfl⟩ ⟨Nat.le_of_ble_eq_true rfl, Nat.le_of_ble_eq_true rfl⟩ rfl (Nat.le_of_ble_eq_true rfl) ⟨Nat.le_of_ble_eq_true rfl, Nat.le_of_ble_eq_true rfl⟩ (fun w hw => ?_)
            exact v_vret hX dX8_readStatement_149 hR (Nat.le_of_ble_eq_true rfl) (Nat.le_of_ble_eq_true rfl) (⟨rfl, hw.to (by rw [tw_stmt_eq, ← hy])⟩)
          · refine v_aload_n hX dX8_readStatement_129 rfl ?_
            refine tv_getI hX dX8_readStatement_130 hw 23 (by decide) rfl q1932 ?_
            refine v_iconst hX dX8_readStatement_133 li3 ?_
            refine v_icmp_ne (tgt := 141) hX dX8_readStatement_134 rfl (fun c_134 => ?_) (fun c_134 => ?_)
            · refine v_iconst hX dX8_readStatement_141 li0 ?_
              exact V.at rfl rfl (by simp [bi, c_134]) hj
            · refine v_iconst hX dX8_readStatement_137 li1 ?_
              refine v_goto (tgt := 142) hX dX8_readStatement_138 rfl ?_
              exact V.at rfl rfl (by simp [bi, c_134]) hj
      · refine v_aload_n hX dX8_readStatement_67 rfl ?_
        refine tv_call0 hX rfl dX8_readStatement_68 q2199 cf_X8_readBatch hw (mX8_readBatch hw hx) rfl ⟨rfl, rfl⟩ ⟨Nat.le_of_ble_eq_true rfl, Nat.le_of_ble_eq_true rfl⟩ rfl (Nat.le_of_ble_eq_true rfl) ⟨Nat.le_of_ble_eq_true rfl, Nat.le_of_ble_eq_true rfl⟩ (fun w hw => ?_)
        refine v_goto (tgt := 128) hX dX8_readStatement_71 rfl ?_
        obtain ⟨y, hy⟩ : ∃ z, z = tw_st1 x := ⟨_, rfl⟩
        have hw : tW (xG X) G wB y w := hw.to (hy.trans (by rw [tw_st1_eq, if_neg c_21, if_neg c_35, if_pos c_64]))
        have hry : tRX y := by rw [hy]; exact hx.st1
        refine v_aload_n hX dX8_readStatement_128 rfl ?_
        refine v_join 142 (.int (bi (y.1 23 = 3))) ?_ (fun hj => ?_)
        · refine tv_call0 hX rfl dX8_readStatement_142 q2175 cf_X8_must hw (mX8_must hw _) rfl ⟨rfl, rfl⟩ ⟨Nat.le_of_ble_eq_true rfl, Nat.le_of_ble_eq_true rfl⟩ rfl (Nat.le_of_ble_eq_true rfl) ⟨Nat.le_of_ble_eq_true rfl, Nat.le_of_ble_eq_true rfl⟩ (fun w hw => ?_)
          refine v_aload_n hX dX8_readStatement_145 rfl ?_
          refine tv_call0 hX rfl dX8_readStatement_146 q2179 cf_X8_goesOn hw (mX8_goesOn hw hry.must.1) rfl ⟨rfl, rfl⟩ ⟨Nat.le_of_ble_eq_true rfl, Nat.le_of_ble_eq_true rfl⟩ rfl (Nat.le_of_ble_eq_true rfl) ⟨Nat.le_of_ble_eq_true rfl, Nat.le_of_ble_eq_true rfl⟩ (fun w hw => ?_)
          exact v_vret hX dX8_readStatement_149 hR (Nat.le_of_ble_eq_true rfl) (Nat.le_of_ble_eq_true rfl) (⟨rfl, hw.to (by rw [tw_stmt_eq, ← hy])⟩)
        · refine v_aload_n hX dX8_readStatement_129 rfl ?_
          refine tv_getI hX dX8_readStatement_130 hw 23 (by decide) rfl q1932 ?_
          refine v_iconst hX dX8_readStatement_133 li3 ?_
          refine v_icmp_ne (tgt := 141) hX dX8_readStatement_134 rfl (fun c_134 => ?_) (fun c_134 => ?_)
          · refine v_iconst hX dX8_readStatement_141 li0 ?_
            exact V.at rfl rfl (by simp [bi, c_134]) hj
          · refine v_iconst hX dX8_readStatement_137 li1 ?_
            refine v_goto (tgt := 142) hX dX8_readStatement_138 rfl ?_
            exact V.at rfl rfl (by simp [bi, c_134]) hj
    · refine v_aload_n hX dX8_readStatement_38 rfl ?_
      refine tv_call0 hX rfl dX8_readStatement_39 q2195 cf_X8_readWave hw (mX8_readWave hw hx) rfl ⟨rfl, rfl⟩ ⟨Nat.le_of_ble_eq_true rfl, Nat.le_of_ble_eq_true rfl⟩ rfl (Nat.le_of_ble_eq_true rfl) ⟨Nat.le_of_ble_eq_true rfl, Nat.le_of_ble_eq_true rfl⟩ (fun w hw => ?_)
      refine v_goto (tgt := 128) hX dX8_readStatement_42 rfl ?_
      obtain ⟨y, hy⟩ : ∃ z, z = tw_st1 x := ⟨_, rfl⟩
      have hw : tW (xG X) G wB y w := hw.to (hy.trans (by rw [tw_st1_eq, if_neg c_21, if_pos c_35]))
      have hry : tRX y := by rw [hy]; exact hx.st1
      refine v_aload_n hX dX8_readStatement_128 rfl ?_
      refine v_join 142 (.int (bi (y.1 23 = 3))) ?_ (fun hj => ?_)
      · refine tv_call0 hX rfl dX8_readStatement_142 q2175 cf_X8_must hw (mX8_must hw _) rfl ⟨rfl, rfl⟩ ⟨Nat.le_of_ble_eq_true rfl, Nat.le_of_ble_eq_true rfl⟩ rfl (Nat.le_of_ble_eq_true rfl) ⟨Nat.le_of_ble_eq_true rfl, Nat.le_of_ble_eq_true rfl⟩ (fun w hw => ?_)
        refine v_aload_n hX dX8_readStatement_145 rfl ?_
        refine tv_call0 hX rfl dX8_readStatement_146 q2179 cf_X8_goesOn hw (mX8_goesOn hw hry.must.1) rfl ⟨rfl, rfl⟩ ⟨Nat.le_of_ble_eq_true rfl, Nat.le_of_ble_eq_true rfl⟩ rfl (Nat.le_of_ble_eq_true rfl) ⟨Nat.le_of_ble_eq_true rfl, Nat.le_of_ble_eq_true rfl⟩ (fun w hw => ?_)
        exact v_vret hX dX8_readStatement_149 hR (Nat.le_of_ble_eq_true rfl) (Nat.le_of_ble_eq_true rfl) (⟨rfl, hw.to (by rw [tw_stmt_eq, ← hy])⟩)
      · refine v_aload_n hX dX8_readStatement_129 rfl ?_
        refine tv_getI hX dX8_readStatement_130 hw 23 (by decide) rfl q1932 ?_
        refine v_iconst hX dX8_readStatement_133 li3 ?_
        refine v_icmp_ne (tgt := 141) hX dX8_readStatement_134 rfl (fun c_134 => ?_) (fun c_134 => ?_)
        · refine v_iconst hX dX8_readStatement_141 li0 ?_
          exact V.at rfl rfl (by simp [bi, c_134]) hj
        · refine v_iconst hX dX8_readStatement_137 li1 ?_
          refine v_goto (tgt := 142) hX dX8_readStatement_138 rfl ?_
          exact V.at rfl rfl (by simp [bi, c_134]) hj
  · refine v_aload_n hX dX8_readStatement_24 rfl ?_
    refine tv_call0 hX rfl dX8_readStatement_25 q2171 cf_X8_readProduct hw (mX8_readProduct hw hx) rfl ⟨rfl, rfl⟩ ⟨Nat.le_of_ble_eq_true rfl, Nat.le_of_ble_eq_true rfl⟩ rfl (Nat.le_of_ble_eq_true rfl) ⟨Nat.le_of_ble_eq_true rfl, Nat.le_of_ble_eq_true rfl⟩ (fun w hw => ?_)
    refine v_goto (tgt := 128) hX dX8_readStatement_28 rfl ?_
    obtain ⟨y, hy⟩ : ∃ z, z = tw_st1 x := ⟨_, rfl⟩
    have hw : tW (xG X) G wB y w := hw.to (hy.trans (by rw [tw_st1_eq, if_pos c_21]))
    have hry : tRX y := by rw [hy]; exact hx.st1
    refine v_aload_n hX dX8_readStatement_128 rfl ?_
    refine v_join 142 (.int (bi (y.1 23 = 3))) ?_ (fun hj => ?_)
    · refine tv_call0 hX rfl dX8_readStatement_142 q2175 cf_X8_must hw (mX8_must hw _) rfl ⟨rfl, rfl⟩ ⟨Nat.le_of_ble_eq_true rfl, Nat.le_of_ble_eq_true rfl⟩ rfl (Nat.le_of_ble_eq_true rfl) ⟨Nat.le_of_ble_eq_true rfl, Nat.le_of_ble_eq_true rfl⟩ (fun w hw => ?_)
      refine v_aload_n hX dX8_readStatement_145 rfl ?_
      refine tv_call0 hX rfl dX8_readStatement_146 q2179 cf_X8_goesOn hw (mX8_goesOn hw hry.must.1) rfl ⟨rfl, rfl⟩ ⟨Nat.le_of_ble_eq_true rfl, Nat.le_of_ble_eq_true rfl⟩ rfl (Nat.le_of_ble_eq_true rfl) ⟨Nat.le_of_ble_eq_true rfl, Nat.le_of_ble_eq_true rfl⟩ (fun w hw => ?_)
      exact v_vret hX dX8_readStatement_149 hR (Nat.le_of_ble_eq_true rfl) (Nat.le_of_ble_eq_true rfl) (⟨rfl, hw.to (by rw [tw_stmt_eq, ← hy])⟩)
    · refine v_aload_n hX dX8_readStatement_129 rfl ?_
      refine tv_getI hX dX8_readStatement_130 hw 23 (by decide) rfl q1932 ?_
      refine v_iconst hX dX8_readStatement_133 li3 ?_
      refine v_icmp_ne (tgt := 141) hX dX8_readStatement_134 rfl (fun c_134 => ?_) (fun c_134 => ?_)
      · refine v_iconst hX dX8_readStatement_141 li0 ?_
        exact V.at rfl rfl (by simp [bi, c_134]) hj
      · refine v_iconst hX dX8_readStatement_137 li1 ?_
        refine v_goto (tgt := 142) hX dX8_readStatement_138 rfl ?_
        exact V.at rfl rfl (by simp [bi, c_134]) hj
end
