/-! the twin: trials -/
noncomputable section
set_option maxRecDepth 100000
def tw_kb (x : TS) : TS := (fun y => sI y 60 (tw_last y)) ((fun y => sI y 59 (tw_num y 1)) (sI x 58 (tw_num x 3)))
def tw_betI (x : TS) : Int32 := if tw_num x 3 = x.1 58 then if tw_num x 1 = x.1 59 then if x.1 60 ≤ tw_last x then 0 else 1 else if tw_num x 1 ≤ x.1 59 then 0 else 1 else if x.1 58 ≤ tw_num x 3 then 0 else 1
abbrev tw_isB (x : TS) : Prop := ¬ tw_betI x = 0
def tw_bt (x : TS) : TS := sI (tw_cr 0 1 x) 2 70
def tw_et (x : TS) : TS := sI x 2 0
theorem kb_k (x : TS) : tK (tw_kb x) = tK x := by
  unfold tw_kb
  simp (disch := decide) only [tK_sI]
theorem bt_2 {x : TS} : (tw_bt x).1 2 = nI (70 * 1) := sI_s
theorem bt_r1 {x : TS} {r : Nat → Int32} (h : rIs x 0 r) : rIs (tw_bt x) 1 r := (h.cr (f := 0) (t := 1) (by decide) (by decide) (by decide)).keep rfl
theorem bt_r0 {x : TS} {r : Nat → Int32} (h : rIs x 0 r) : rIs (tw_bt x) 0 r := (h.cro (f := 0) (t := 1) (k := 0) (by decide) (by decide) (by decide) (by decide)).keep rfl
/-- the plan itself is looked at, and is r -/
def tIr (r : Nat → Int32) (x : TS) : Prop := x.1 2 = 0 ∧ rIs x 0 r
theorem tIr.P {r : Nat → Int32} {x : TS} (h : tIr r x) (hk : rOK r) : tP x := tP_of h.2 (k := 0) h.1 (by decide) hk
theorem tIr.et {r : Nat → Int32} {x : TS} (h : rIs x 0 r) : tIr r (tw_et x) := ⟨sI_s, h.keep rfl⟩
theorem tIr.z {r : Nat → Int32} {x : TS} (h : tIr r x) : tIr r (tw_z x) := ⟨(sI_n (by decide)).trans h.1, h.2.keep rfl⟩
theorem tIr.k {r : Nat → Int32} {x y : TS} (h : tIr r x) (e : tK y = tK x) : tIr r y := ⟨(tK_1 e).trans h.1, h.2.k e⟩
def tw_bs2 (b : Nat) (v : Int32) (z : TS) : TS × Int32 := if tw_isB z then (tw_et (tw_kb z), nI b) else (tw_et z, v)
def tw_bs1 (b : Nat) (s : TS × Int32) : TS × Int32 := tw_bs2 b s.2 (tw_dy (tw_ex (nI b) (nI b + 1) (tw_bt s.1)))
def tw_bsN (x : TS) : Nat := (x.2.2.1 1 8).toNatClampNeg - 1
def tw_bsw (x : TS) : TS × Int32 := it tw_bs1 (tw_bsN x) (tw_kb (tw_dy (tw_z x)), -1)
theorem bs_r0 {r : Nat → Int32} {x : TS} {b : Nat} (h : tIr r x) (hb : b + 1 < 20) : rIs (tw_dy (tw_ex (nI b) (nI b + 1) (tw_bt x))) 0 r := by
  rw [nI_1]
  exact ((bt_r0 h.2).exo (k := 1) bt_2 (by decide) (by omega) hb (by decide)).k (tw_dy_k _)
theorem bs1_I {r : Nat → Int32} (b : Nat) (s : TS × Int32) (hb : b + 1 < 20) (h : tIr r s.1) : tIr r (tw_bs1 b s).1 := by
  have h0 := bs_r0 (b := b) h hb
  unfold tw_bs1
  generalize tw_dy (tw_ex (nI b) (nI b + 1) (tw_bt s.1)) = z at h0
  unfold tw_bs2
  split
  · exact tIr.et (h0.k (kb_k z))
  · exact tIr.et h0
theorem bs_P1 {r : Nat → Int32} {x : TS} {b : Nat} (h : tIr r x) (hk : rOK r) (hb : b + 1 < rn r) : tP (tw_ex (nI b) (nI b + 1) (tw_bt x)) := by
  have h20 := hk.1.1
  rw [nI_1]
  refine tP_of (k := 1) ((bt_r1 h.2).ex bt_2 (by decide) (by omega) (by omega) (by omega)) ?_ (by decide) (hk.swap (by omega) hb)
  rw [ex_1]; exact bt_2
theorem r8_at {r : Nat → Int32} {x : TS} (h : rIs x 0 r) (hk : rOK r) : tA x 1 8 = nI (rn r) := (h 8 (by decide)).trans hk.1.2
theorem sw_x {r : Nat → Int32} {x : TS} {i : Nat} (h : rIs x 0 r) (hk : rOK r) (hi : rn r ≤ i + 1) (hi2 : i ≤ 1000) : tA x 1 8 ≤ nI i + 1 := by rw [r8_at h hk, nI_1]; exact nI_le hi (by omega)
theorem sw_s {r : Nat → Int32} {x : TS} {i : Nat} (h : rIs x 0 r) (hk : rOK r) (hi : i + 1 < rn r) : ¬ tA x 1 8 ≤ nI i + 1 := by have := hk.1.1; rw [r8_at h hk, nI_1]; exact nI_ge hi (by omega)
theorem cf_X8_keepsBest : CF RX8 yX8_keepsBest cX8_keepsBest 1 none 0 := ⟨q2534, qs107, q150, q2535, by decide +kernel⟩
theorem mX8_keepsBest {Γ : Gm} {l : Launch} {G : Nat → Nat} {wB : Wd} {x : TS} {w : Wd} (hw : tW Γ G wB x w) (hP : tP x) : M0 Γ l yX8_keepsBest (ws_ yX8_keepsBest cX8_keepsBest 1 none) (rl 3 0 0) 0 0 [.ref (G 61)] w (fun r9 w9 => r9 = none ∧ tW Γ G wB (tw_kb x) w9) := by
  refine M0.of (lv := [some (.ref (G 61))]) (by decide) (Nat.le_of_ble_eq_true rfl) 0 rfl rfl ?_
  intro X hX hR hl hG hnm
  subst hl; subst hG
  refine v_aload_n hX dX8_keepsBest_0 rfl ?_
  refine v_aload_n hX dX8_keepsBest_1 rfl ?_
  refine v_iconst hX dX8_keepsBest_2 li3 ?_
  refine tv_callR hX rfl dX8_keepsBest_3 q2456 cf_X8_countOf hw (mX8_countOf hw hP _) rfl ⟨rfl, rfl⟩ ⟨Nat.le_of_ble_eq_true rfl, Nat.le_of_ble_eq_true rfl⟩ rfl (Nat.le_of_ble_eq_true rfl) ⟨Nat.le_of_ble_eq_true rfl, Nat.le_of_ble_eq_true rfl⟩ ?_
  refine tv_putI hX dX8_keepsBest_6 hw 58 (by decide) rfl q1967 rfl (by decide +kernel) (fun w hw => ?_)
  refine v_aload_n hX dX8_keepsBest_9 rfl ?_
  refine v_aload_n hX dX8_keepsBest_10 rfl ?_
  refine v_iconst hX dX8_keepsBest_11 li1 ?_
  refine tv_callR hX rfl dX8_keepsBest_12 q2456 cf_X8_countOf hw (mX8_countOf hw (hP.k (tK_sI (by decide))) _) rfl ⟨rfl, rfl⟩ ⟨Nat.le_of_ble_eq_true rfl, Nat.le_of_ble_eq_true rfl⟩ rfl (Nat.le_of_ble_eq_true rfl) ⟨Nat.le_of_ble_eq_true rfl, Nat.le_of_ble_eq_true rfl⟩ ?_
  refine tv_putI hX dX8_keepsBest_15 hw 59 (by decide) rfl q1968 rfl (by decide +kernel) (fun w hw => ?_)
  refine v_aload_n hX dX8_keepsBest_18 rfl ?_
  refine v_aload_n hX dX8_keepsBest_19 rfl ?_
  refine tv_callR hX rfl dX8_keepsBest_20 q2464 cf_X8_lastOf hw (mX8_lastOf hw (hP.k ((tK_sI (by decide)).trans (tK_sI (by decide))))) rfl ⟨rfl, rfl⟩ ⟨Nat.le_of_ble_eq_true rfl, Nat.le_of_ble_eq_true rfl⟩ rfl (Nat.le_of_ble_eq_true rfl) ⟨Nat.le_of_ble_eq_true rfl, Nat.le_of_ble_eq_true rfl⟩ ?_
  refine tv_putI hX dX8_keepsBest_23 hw 60 (by decide) rfl q1969 rfl (by decide +kernel) (fun w hw => ?_)
  exact v_vret hX dX8_keepsBest_26 hR (Nat.le_of_ble_eq_true rfl) (Nat.le_of_ble_eq_true rfl) (⟨rfl, hw⟩)
theorem cf_X8_measures : CF RX8 yX8_measures cX8_measures 1 none 0 := ⟨q2514, qs102, q150, q2515, by decide +kernel⟩
theorem mX8_measures {Γ : Gm} {l : Launch} {G : Nat → Nat} {wB : Wd} {x : TS} {w : Wd} (hw : tW Γ G wB x w) (hP : tP x) : M0 Γ l yX8_measures (ws_ yX8_measures cX8_measures 1 none) (rl 9 0 0) 0 0 [.ref (G 61)] w (fun r9 w9 => r9 = none ∧ tW Γ G wB (tw_kb (tw_dy x)) w9) := by
  refine M0.of (lv := [some (.ref (G 61))]) (by decide) (Nat.le_of_ble_eq_true rfl) 0 rfl rfl ?_
  intro X hX hR hl hG hnm
  subst hl; subst hG
  refine v_aload_n hX dX8_measures_0 rfl ?_
  refine tv_call0 hX rfl dX8_measures_1 q2293 cf_X8_plays hw (mX8_plays1 hw hP) rfl ⟨rfl, rfl⟩ ⟨Nat.le_of_ble_eq_true rfl, Nat.le_of_ble_eq_true rfl⟩ rfl (Nat.le_of_ble_eq_true rfl) ⟨Nat.le_of_ble_eq_true rfl, Nat.le_of_ble_eq_true rfl⟩ (fun w hw => ?_)
  refine v_aload_n hX dX8_measures_4 rfl ?_
  refine v_aload_n hX dX8_measures_5 rfl ?_
  refine v_iconst hX dX8_measures_6 li3 ?_
  refine tv_callR hX rfl dX8_measures_7 q2456 cf_X8_countOf hw (mX8_countOf hw (hP.k (tw_dy_k _)) _) rfl ⟨rfl, rfl⟩ ⟨Nat.le_of_ble_eq_true rfl, Nat.le_of_ble_eq_true rfl⟩ rfl (Nat.le_of_ble_eq_true rfl) ⟨Nat.le_of_ble_eq_true rfl, Nat.le_of_ble_eq_true rfl⟩ ?_
  refine tv_putI hX dX8_measures_10 hw 58 (by decide) rfl q1967 rfl (by decide +kernel) (fun w hw => ?_)
  refine v_aload_n hX dX8_measures_13 rfl ?_
  refine v_aload_n hX dX8_measures_14 rfl ?_
  refine v_iconst hX dX8_measures_15 li1 ?_
  refine tv_callR hX rfl dX8_measures_16 q2456 cf_X8_countOf hw (mX8_countOf hw (hP.k ((tK_sI (by decide)).trans (tw_dy_k _))) _) rfl ⟨rfl, rfl⟩ ⟨Nat.le_of_ble_eq_true rfl, Nat.le_of_ble_eq_true rfl⟩ rfl (Nat.le_of_ble_eq_true rfl) ⟨Nat.le_of_ble_eq_true rfl, Nat.le_of_ble_eq_true rfl⟩ ?_
  refine tv_putI hX dX8_measures_19 hw 59 (by decide) rfl q1968 rfl (by decide +kernel) (fun w hw => ?_)
  refine v_aload_n hX dX8_measures_22 rfl ?_
  refine v_aload_n hX dX8_measures_23 rfl ?_
  refine tv_callR hX rfl dX8_measures_24 q2464 cf_X8_lastOf hw (mX8_lastOf hw (hP.k ((tK_sI (by decide)).trans ((tK_sI (by decide)).trans (tw_dy_k _))))) rfl ⟨rfl, rfl⟩ ⟨Nat.le_of_ble_eq_true rfl, Nat.le_of_ble_eq_true rfl⟩ rfl (Nat.le_of_ble_eq_true rfl) ⟨Nat.le_of_ble_eq_true rfl, Nat.le_of_ble_eq_true rfl⟩ ?_
  refine tv_putI hX dX8_measures_27 hw 60 (by decide) rfl q1969 rfl (by decide +kernel) (fun w hw => ?_)
  exact v_vret hX dX8_measures_30 hR (Nat.le_of_ble_eq_true rfl) (Nat.le_of_ble_eq_true rfl) (⟨rfl, hw⟩)
theorem cf_X8_isBetter : CF RX8 yX8_isBetter cX8_isBetter 3 (some .boolean) 0 := ⟨q2530, qs106, q150, q2531, by decide +kernel⟩
theorem mX8_isBetter {Γ : Gm} {l : Launch} {G : Nat → Nat} {wB : Wd} {x : TS} {w : Wd} (hw : tW Γ G wB x w) (hP : tP x) : MRd Γ l yX8_isBetter (ws_ yX8_isBetter cX8_isBetter 3 (some .boolean)) (rl 3 0 0) [.ref (G 61)] w (.int (bi (tw_isB x))) := by
  refine M0.of (lv := [some (.ref (G 61)), none, none]) (by decide) (Nat.le_of_ble_eq_true rfl) 2 rfl rfl ?_
  intro X hX hR hl hG hnm
  subst hl; subst hG
  refine v_aload_n hX dX8_isBetter_0 rfl ?_
  refine v_iconst hX dX8_isBetter_1 li3 ?_
  refine tv_callR hX rfl dX8_isBetter_2 q2456 cf_X8_countOf hw (mX8_countOf hw hP _) rfl ⟨rfl, rfl⟩ ⟨Nat.le_of_ble_eq_true rfl, Nat.le_of_ble_eq_true rfl⟩ rfl (Nat.le_of_ble_eq_true rfl) ⟨Nat.le_of_ble_eq_true rfl, Nat.le_of_ble_eq_true rfl⟩ ?_
  refine v_istore_n (lv' := [_, _, _]) hX dX8_isBetter_5 (Nat.le_of_ble_eq_true rfl) rfl rfl ?_
  refine v_aload_n hX dX8_isBetter_6 rfl ?_
  refine v_iconst hX dX8_isBetter_7 li1 ?_
  refine tv_callR hX rfl dX8_isBetter_8 q2456 cf_X8_countOf hw (mX8_countOf hw hP _) rfl ⟨rfl, rfl⟩ ⟨Nat.le_of_ble_eq_true rfl, Nat.le_of_ble_eq_true rfl⟩ rfl (Nat.le_of_ble_eq_true rfl) ⟨Nat.le_of_ble_eq_true rfl, Nat.le_of_ble_eq_true rfl⟩ ?_
  refine v_istore_n (lv' := [_, _, _]) hX dX8_isBetter_11 (Nat.le_of_ble_eq_true rfl) rfl rfl ?_
  refine v_iload_n hX dX8_isBetter_12 rfl ?_
  refine v_aload_n hX dX8_isBetter_13 rfl ?_
  refine tv_getI hX dX8_isBetter_14 hw 58 (by decide) rfl q1967 ?_
  refine v_icmp_eq (tgt := 34) hX dX8_isBetter_17 rfl (fun c_17 => ?_) (fun c_17 => ?_)
  · refine v_iload_n hX dX8_isBetter_34 rfl ?_
    refine v_aload_n hX dX8_isBetter_35 rfl ?_
    refine tv_getI hX dX8_isBetter_36 hw 59 (by decide) rfl q1968 ?_
    refine v_icmp_eq (tgt := 56) hX dX8_isBetter_39 rfl (fun c_39 => ?_) (fun c_39 => ?_)
    · refine v_aload_n hX dX8_isBetter_56 rfl ?_
      refine tv_callR hX rfl dX8_isBetter_57 q2464 cf_X8_lastOf hw (mX8_lastOf hw hP) rfl ⟨rfl, rfl⟩ ⟨Nat.le_of_ble_eq_true rfl, Nat.le_of_ble_eq_true rfl⟩ rfl (Nat.le_of_ble_eq_true rfl) ⟨Nat.le_of_ble_eq_true rfl, Nat.le_of_ble_eq_true rfl⟩ ?_
      refine v_aload_n hX dX8_isBetter_60 rfl ?_
      refine tv_getI hX dX8_isBetter_61 hw 60 (by decide) rfl q1969 ?_
      refine v_icmp_ge (tgt := 71) hX dX8_isBetter_64 rfl (fun c_64 => ?_) (fun c_64 => ?_)
      · refine v_iconst hX dX8_isBetter_71 li0 ?_
        exact v_zret hX dX8_isBetter_72 hR (Nat.le_of_ble_eq_true rfl) (Nat.le_of_ble_eq_true rfl) (rfl) (⟨by simp [bi, tw_isB, tw_betI, c_17, c_39, c_64], rfl⟩)
      · refine v_iconst hX dX8_isBetter_67 li1 ?_
        refine v_goto (tgt := 72) hX dX8_isBetter_68 rfl ?_
        exact v_zret hX dX8_isBetter_72 hR (Nat.le_of_ble_eq_true rfl) (Nat.le_of_ble_eq_true rfl) (rfl) (⟨by simp [bi, tw_isB, tw_betI, c_17, c_39, c_64], rfl⟩)
    · refine v_iload_n hX dX8_isBetter_42 rfl ?_
      refine v_aload_n hX dX8_isBetter_43 rfl ?_
      refine tv_getI hX dX8_isBetter_44 hw 59 (by decide) rfl q1968 ?_
      refine v_icmp_le (tgt := 54) hX dX8_isBetter_47 rfl (fun c_47 => ?_) (fun c_47 => ?_)
      · refine v_iconst hX dX8_isBetter_54 li0 ?_
        exact v_zret hX dX8_isBetter_55 hR (Nat.le_of_ble_eq_true rfl) (Nat.le_of_ble_eq_true rfl) (rfl) (⟨by simp [bi, tw_isB, tw_betI, c_17, c_39, c_47], rfl⟩)
      · refine v_iconst hX dX8_isBetter_50 li1 ?_
        refine v_goto (tgt := 55) hX dX8_isBetter_51 rfl ?_
        exact v_zret hX dX8_isBetter_55 hR (Nat.le_of_ble_eq_true rfl) (Nat.le_of_ble_eq_true rfl) (rfl) (⟨by simp [bi, tw_isB, tw_betI, c_17, c_39, c_47], rfl⟩)
  · refine v_iload_n hX dX8_isBetter_20 rfl ?_
    refine v_aload_n hX dX8_isBetter_21 rfl ?_
    refine tv_getI hX dX8_isBetter_22 hw 58 (by decide) rfl q1967 ?_
    refine v_icmp_ge (tgt := 32) hX dX8_isBetter_25 rfl (fun c_25 => ?_) (fun c_25 => ?_)
    · refine v_iconst hX dX8_isBetter_32 li0 ?_
      exact v_zret hX dX8_isBetter_33 hR (Nat.le_of_ble_eq_true rfl) (Nat.le_of_ble_eq_true rfl) (rfl) (⟨by simp [bi, tw_isB, tw_betI, c_17, c_25], rfl⟩)
    · refine v_iconst hX dX8_isBetter_28 li1 ?_
      refine v_goto (tgt := 33) hX dX8_isBetter_29 rfl ?_
      exact v_zret hX dX8_isBetter_33 hR (Nat.le_of_ble_eq_true rfl) (Nat.le_of_ble_eq_true rfl) (rfl) (⟨by simp [bi, tw_isB, tw_betI, c_17, c_25], rfl⟩)
theorem cf_X8_beginTrial : CF RX8 yX8_beginTrial cX8_beginTrial 1 none 0 := ⟨q2518, qs103, q150, q2519, by decide +kernel⟩
theorem mX8_beginTrial {Γ : Gm} {l : Launch} {G : Nat → Nat} {wB : Wd} {x : TS} {w : Wd} (hw : tW Γ G wB x w)  : M0 Γ l yX8_beginTrial (ws_ yX8_beginTrial cX8_beginTrial 1 none) (rl 1 0 0) 0 0 [.ref (G 61)] w (fun r9 w9 => r9 = none ∧ tW Γ G wB (tw_bt x) w9) := by
  refine M0.of (lv := [some (.ref (G 61))]) (by decide) (Nat.le_of_ble_eq_true rfl) 0 rfl rfl ?_
  intro X hX hR hl hG hnm
  subst hl; subst hG
  refine v_aload_n hX dX8_beginTrial_0 rfl ?_
  refine v_iconst hX dX8_beginTrial_1 li0 ?_
  refine v_iconst hX dX8_beginTrial_2 li1 ?_
  refine tv_call0 hX rfl dX8_beginTrial_3 q1905 cf_X8_copyRow hw (mX8_copyRow hw _ _ (vin (by decide)) (vin (by decide))) rfl ⟨rfl, rfl⟩ ⟨Nat.le_of_ble_eq_true rfl, Nat.le_of_ble_eq_true rfl⟩ rfl (Nat.le_of_ble_eq_true rfl) ⟨Nat.le_of_ble_eq_true rfl, Nat.le_of_ble_eq_true rfl⟩ (fun w hw => ?_)
  refine v_aload_n hX dX8_beginTrial_6 rfl ?_
  refine v_bipush hX dX8_beginTrial_7 lb70 ?_
  refine tv_putI hX dX8_beginTrial_9 hw 2 (by decide) rfl q1911 rfl (by decide +kernel) (fun w hw => ?_)
  exact v_vret hX dX8_beginTrial_12 hR (Nat.le_of_ble_eq_true rfl) (Nat.le_of_ble_eq_true rfl) (⟨rfl, hw⟩)
theorem cf_X8_endTrial : CF RX8 yX8_endTrial cX8_endTrial 1 none 0 := ⟨q2538, qs108, q150, q2539, by decide +kernel⟩
theorem mX8_endTrial {Γ : Gm} {l : Launch} {G : Nat → Nat} {wB : Wd} {x : TS} {w : Wd} (hw : tW Γ G wB x w)  : M0 Γ l yX8_endTrial (ws_ yX8_endTrial cX8_endTrial 1 none) (rl 0 0 0) 0 0 [.ref (G 61)] w (fun r9 w9 => r9 = none ∧ tW Γ G wB (tw_et x) w9) := by
  refine M0.of (lv := [some (.ref (G 61))]) (by decide) (Nat.le_of_ble_eq_true rfl) 0 rfl rfl ?_
  intro X hX hR hl hG hnm
  subst hl; subst hG
  refine v_aload_n hX dX8_endTrial_0 rfl ?_
  refine v_iconst hX dX8_endTrial_1 li0 ?_
  refine tv_putI hX dX8_endTrial_2 hw 2 (by decide) rfl q1911 rfl (by decide +kernel) (fun w hw => ?_)
  exact v_vret hX dX8_endTrial_5 hR (Nat.le_of_ble_eq_true rfl) (Nat.le_of_ble_eq_true rfl) (⟨rfl, hw⟩)
theorem ex1_1 (a b : Int32) (i : Nat) (y : TS) : (tw_ex1 a b i y).1 2 = y.1 2 := rfl
theorem cf_X8_exchange : CF RX8 yX8_exchange cX8_exchange 5 none 2 := ⟨q2522, qs104, q150, q2523, by decide +kernel⟩
theorem mX8_exchange {Γ : Gm} {l : Launch} {G : Nat → Nat} {wB : Wd} {x : TS} {w : Wd} (hw : tW Γ G wB x w) (ha : x.1 2 = 0 ∨ x.1 2 = 70) (a b : Int32) (h1 : vp_in a 20) (h2 : vp_in b 20) : M0 Γ l yX8_exchange (ws_ yX8_exchange cX8_exchange 5 none) (rl 1 0 0) 0 0 [.ref (G 61), .int a, .int b] w (fun r9 w9 => r9 = none ∧ tW Γ G wB (tw_ex a b x) w9) := by
  refine M0.of (lv := [some (.ref (G 61)), some (.int a), some (.int b), none, none]) (by decide) (Nat.le_of_ble_eq_true rfl) 2 rfl rfl ?_
  intro X hX hR hl hG hnm
  subst hl; subst hG
  refine v_iconst hX dX8_exchange_0 li0 ?_
  refine v_istore_n (lv' := [_, _, _, _, _]) hX dX8_exchange_1 (Nat.le_of_ble_eq_true rfl) rfl rfl ?_
  refine V.no (lv' := [_, _, _, _, _]) 4 rfl ?_
  refine loop_up (3) (fun i => ∀ w, tW (xG X) G wB ((it (tw_ex1 a b) (i) x)) w → V X w 0 0 2 [some (.ref (G 61)), some (.int a), some (.int b), some (.int (nI (i))), none] []) ?_ ?_ 0 (Nat.zero_le _) w hw
  · intro w hw
    refine v_iload_n hX dX8_exchange_2 rfl ?_
    refine v_iconst hX dX8_exchange_3 li3 ?_
    refine v_icmp_ge_t (tgt := 41) hX dX8_exchange_4 rfl (by decide) ?_
    exact v_vret hX dX8_exchange_41 hR (Nat.le_of_ble_eq_true rfl) (Nat.le_of_ble_eq_true rfl) (⟨rfl, hw.to (tw_ex_eq a b x)⟩)
  · intro i hi ih w hw
    have ih : ∀ w, tW (xG X) G wB (((tw_ex1 a b) i (it (tw_ex1 a b) (i) x))) w → V X w 0 0 2 [some (.ref (G 61)), some (.int a), some (.int b), some (.int (nI (i + 1))), none] [] := ih
    have hi3 : vp_in (nI i) 3 := vnI hi (by decide)
    have hay : (it (tw_ex1 a b) i x).1 2 = 0 ∨ (it (tw_ex1 a b) i x).1 2 = 70 := by rw [show (it (tw_ex1 a b) i x).1 2 = x.1 2 from it_keep (f := tw_ex1 a b) (fun y : TS => y.1 2) (ex1_1 a b) i x]; exact ha
    generalize (it (tw_ex1 a b) (i) x) = y at hw ih hay
    refine v_iload_n hX dX8_exchange_2 rfl ?_
    refine v_iconst hX dX8_exchange_3 li3 ?_
    refine v_icmp_ge_f (tgt := 41) hX dX8_exchange_4 rfl (ge_s (N := 3) rfl hi (by decide)) ?_
    refine v_aload_n hX dX8_exchange_7 rfl ?_
    refine v_iload_n hX dX8_exchange_8 rfl ?_
    refine v_iload_n hX dX8_exchange_9 rfl ?_
    refine tv_callR hX rfl dX8_exchange_10 q2269 cf_X8_batch hw (mX8_batch hw _ _ (bidx0 hay h1 hi3)) rfl ⟨rfl, rfl⟩ ⟨Nat.le_of_ble_eq_true rfl, Nat.le_of_ble_eq_true rfl⟩ rfl (Nat.le_of_ble_eq_true rfl) ⟨Nat.le_of_ble_eq_true rfl, Nat.le_of_ble_eq_true rfl⟩ ?_
    refine v_istore (lv' := [_, _, _, _, _]) hX dX8_exchange_13 (Nat.le_of_ble_eq_true rfl) rfl rfl ?_
    refine v_aload_n hX dX8_exchange_15 rfl ?_
    refine v_iload_n hX dX8_exchange_16 rfl ?_
    refine v_iload_n hX dX8_exchange_17 rfl ?_
    refine v_aload_n hX dX8_exchange_18 rfl ?_
    refine v_iload_n hX dX8_exchange_19 rfl ?_
    refine v_iload_n hX dX8_exchange_20 rfl ?_
    refine tv_callR hX rfl dX8_exchange_21 q2269 cf_X8_batch hw (mX8_batch hw _ _ (bidx0 hay h2 hi3)) rfl ⟨rfl, rfl⟩ ⟨Nat.le_of_ble_eq_true rfl, Nat.le_of_ble_eq_true rfl⟩ rfl (Nat.le_of_ble_eq_true rfl) ⟨Nat.le_of_ble_eq_true rfl, Nat.le_of_ble_eq_true rfl⟩ ?_
    refine tv_call0 hX rfl dX8_exchange_24 q2524 cf_X8_setBatch hw (mX8_setBatch hw _ _ _ (bidx0 hay h1 hi3)) rfl ⟨rfl, rfl⟩ ⟨Nat.le_of_ble_eq_true rfl, Nat.le_of_ble_eq_true rfl⟩ rfl (Nat.le_of_ble_eq_true rfl) ⟨Nat.le_of_ble_eq_true rfl, Nat.le_of_ble_eq_true rfl⟩ (fun w hw => ?_)
    refine v_aload_n hX dX8_exchange_27 rfl ?_
    refine v_iload_n hX dX8_exchange_28 rfl ?_
    refine v_iload_n hX dX8_exchange_29 rfl ?_
    refine v_iload hX dX8_exchange_30 rfl ?_
    refine tv_call0 hX rfl dX8_exchange_32 q2524 cf_X8_setBatch hw (mX8_setBatch hw _ _ _ (bidx0 hay h2 hi3)) rfl ⟨rfl, rfl⟩ ⟨Nat.le_of_ble_eq_true rfl, Nat.le_of_ble_eq_true rfl⟩ rfl (Nat.le_of_ble_eq_true rfl) ⟨Nat.le_of_ble_eq_true rfl, Nat.le_of_ble_eq_true rfl⟩ (fun w hw => ?_)
    refine v_iinc (lv' := [_, _, _, _, _]) hX dX8_exchange_35 rfl li1 rfl rfl ?_
    refine v_goto (tgt := 2) hX dX8_exchange_38 rfl ?_
    refine V.no (lv' := [_, _, _, _, _]) 4 rfl ?_
    exact V.at rfl (by rw [nI_1]) rfl (ih w hw)
theorem cf_X8_bestSwap : CF RX8 yX8_bestSwap cX8_bestSwap 3 (some .int) 0 := ⟨q2509, q2510, q150, q2511, by decide +kernel⟩
theorem mX8_bestSwap {Γ : Gm} {l : Launch} {G : Nat → Nat} {wB : Wd} {x : TS} {w : Wd} (hw : tW Γ G wB x w) {r : Nat → Int32} (hI : tIr r x) (hk : rOK r) : M0 Γ l yX8_bestSwap (ws_ yX8_bestSwap cX8_bestSwap 3 (some .int)) (rl 10 0 0) 0 0 [.ref (G 61)] w (fun r9 w9 => r9 = some (.int (tw_bsw x).2) ∧ tW Γ G wB ((tw_bsw x).1) w9) := by
  refine M0.of (lv := [some (.ref (G 61)), none, none]) (by decide) (Nat.le_of_ble_eq_true rfl) 2 rfl rfl ?_
  intro X hX hR hl hG hnm
  subst hl; subst hG
  refine v_aload_n hX dX8_bestSwap_0 rfl ?_
  refine v_iconst hX dX8_bestSwap_1 li0 ?_
  refine tv_putI hX dX8_bestSwap_2 hw 0 (by decide) rfl q1909 rfl (by decide +kernel) (fun w hw => ?_)
  refine v_aload_n hX dX8_bestSwap_5 rfl ?_
  refine tv_call0 hX rfl dX8_bestSwap_6 q2512 cf_X8_measures hw (mX8_measures hw (hI.z.P hk)) rfl ⟨rfl, rfl⟩ ⟨Nat.le_of_ble_eq_true rfl, Nat.le_of_ble_eq_true rfl⟩ rfl (Nat.le_of_ble_eq_true rfl) ⟨Nat.le_of_ble_eq_true rfl, Nat.le_of_ble_eq_true rfl⟩ (fun w hw => ?_)
  obtain ⟨y0, hy0⟩ : ∃ z, z = tw_kb (tw_dy (tw_z x)) := ⟨_, rfl⟩
  have hw : tW (xG X) G wB y0 w := hw.to hy0
  have h20 := hk.1.1
  have hN : tw_bsN x = rn r - 1 := by unfold tw_bsN; rw [show x.2.2.1 1 8 = r 8 from hI.2 8 (by decide)]; rfl
  have h0 : tIr r y0 := by rw [hy0]; exact (hI.z.k (tw_dy_k _)).k (kb_k _)
  refine v_iconst hX dX8_bestSwap_9 lim1 ?_
  refine v_istore_n (lv' := [_, _, _]) hX dX8_bestSwap_10 (Nat.le_of_ble_eq_true rfl) rfl rfl ?_
  refine v_iconst hX dX8_bestSwap_11 li0 ?_
  refine v_istore_n (lv' := [_, _, _]) hX dX8_bestSwap_12 (Nat.le_of_ble_eq_true rfl) rfl rfl ?_
  refine loop_up (rn r - 1) (fun i => ∀ w, tW (xG X) G wB ((it (tw_bs1) (i) (y0, (-1 : Int32))).1) w → V X w 0 0 13 [some (.ref (G 61)), some (.int (it (tw_bs1) (i) (y0, (-1 : Int32))).2), some (.int (nI (i)))] []) ?_ ?_ 0 (Nat.zero_le _) w hw
  · intro w hw
    have hIy : tIr r (it tw_bs1 (rn r - 1) (y0, (-1 : Int32))).1 := it_inv (fun s : TS × Int32 => tIr r s.1) h0 (rn r - 1) (fun b s hb q => bs1_I b s (by omega) q) (rn r - 1) (Nat.le_refl _)
    refine v_iload_n hX dX8_bestSwap_13 rfl ?_
    refine v_iconst hX dX8_bestSwap_14 li1 ?_
    refine v_iadd hX dX8_bestSwap_15 ?_
    refine v_aload_n hX dX8_bestSwap_16 rfl ?_
    refine tv_getA hX dX8_bestSwap_17 hw 1 (by decide) rfl q1910 ?_
    refine v_bipush hX dX8_bestSwap_20 lb8 ?_
    refine tv_iald hX dX8_bestSwap_22 hw (by decide) rfl rfl (vin (by decide)) ?_
    refine v_icmp_ge_t (tgt := 65) hX dX8_bestSwap_23 rfl (sw_x hIy.2 hk (by omega) (by omega)) ?_
    refine v_iload_n hX dX8_bestSwap_65 rfl ?_
    exact v_iret hX dX8_bestSwap_66 hR (Nat.le_of_ble_eq_true rfl) (Nat.le_of_ble_eq_true rfl) (⟨by rw [tw_bsw, hN, ← hy0], hw.to (by rw [tw_bsw, hN, ← hy0])⟩)
  · intro i hi ih w hw
    have ih : ∀ w, tW (xG X) G wB (((tw_bs1) i (it (tw_bs1) (i) (y0, (-1 : Int32)))).1) w → V X w 0 0 13 [some (.ref (G 61)), some (.int ((tw_bs1) i (it (tw_bs1) (i) (y0, (-1 : Int32)))).2), some (.int (nI (i + 1)))] [] := ih
    have hIy : tIr r (it tw_bs1 (i) (y0, (-1 : Int32))).1 := it_inv (fun s : TS × Int32 => tIr r s.1) h0 (rn r - 1) (fun b s hb q => bs1_I b s (by omega) q) (i) (Nat.le_of_lt hi)
    have hP1 := bs_P1 (b := i) hIy hk (by omega)
    generalize (it (tw_bs1) (i) (y0, (-1 : Int32))) = y at hw ih hIy hP1
    refine v_iload_n hX dX8_bestSwap_13 rfl ?_
    refine v_iconst hX dX8_bestSwap_14 li1 ?_
    refine v_iadd hX dX8_bestSwap_15 ?_
    refine v_aload_n hX dX8_bestSwap_16 rfl ?_
    refine tv_getA hX dX8_bestSwap_17 hw 1 (by decide) rfl q1910 ?_
    refine v_bipush hX dX8_bestSwap_20 lb8 ?_
    refine tv_iald hX dX8_bestSwap_22 hw (by decide) rfl rfl (vin (by decide)) ?_
    refine v_icmp_ge_f (tgt := 65) hX dX8_bestSwap_23 rfl (sw_s hIy.2 hk (by omega)) ?_
    refine v_aload_n hX dX8_bestSwap_26 rfl ?_
    refine tv_call0 hX rfl dX8_bestSwap_27 q2516 cf_X8_beginTrial hw (mX8_beginTrial hw) rfl ⟨rfl, rfl⟩ ⟨Nat.le_of_ble_eq_true rfl, Nat.le_of_ble_eq_true rfl⟩ rfl (Nat.le_of_ble_eq_true rfl) ⟨Nat.le_of_ble_eq_true rfl, Nat.le_of_ble_eq_true rfl⟩ (fun w hw => ?_)
    refine v_aload_n hX dX8_bestSwap_30 rfl ?_
    refine v_iload_n hX dX8_bestSwap_31 rfl ?_
    refine v_iload_n hX dX8_bestSwap_32 rfl ?_
    refine v_iconst hX dX8_bestSwap_33 li1 ?_
    refine v_iadd hX dX8_bestSwap_34 ?_
    refine tv_call0 hX rfl dX8_bestSwap_35 q2520 cf_X8_exchange hw (mX8_exchange hw (Or.inr (bt_2 (x := _))) _ _ (vnI (show i < 20 by omega) (by decide)) (by rw [nI_1]; exact vnI (show i + 1 < 20 by omega) (by decide))) rfl ⟨rfl, rfl⟩ ⟨Nat.le_of_ble_eq_true rfl, Nat.le_of_ble_eq_true rfl⟩ rfl (Nat.le_of_ble_eq_true rfl) ⟨Nat.le_of_ble_eq_true rfl, Nat.le_of_ble_eq_true rfl⟩ (fun w hw => ?_)
    refine v_aload_n hX dX8_bestSwap_38 rfl ?_
    refine tv_call0 hX rfl dX8_bestSwap_39 q2293 cf_X8_plays hw (mX8_plays1 hw hP1) rfl ⟨rfl, rfl⟩ ⟨Nat.le_of_ble_eq_true rfl, Nat.le_of_ble_eq_true rfl⟩ rfl (Nat.le_of_ble_eq_true rfl) ⟨Nat.le_of_ble_eq_true rfl, Nat.le_of_ble_eq_true rfl⟩ (fun w hw => ?_)
    refine v_aload_n hX dX8_bestSwap_42 rfl ?_
    refine tv_callR hX rfl dX8_bestSwap_43 q2528 cf_X8_isBetter hw (mX8_isBetter hw (hP1.k (tw_dy_k _))) rfl ⟨rfl, rfl⟩ ⟨Nat.le_of_ble_eq_true rfl, Nat.le_of_ble_eq_true rfl⟩ rfl (Nat.le_of_ble_eq_true rfl) ⟨Nat.le_of_ble_eq_true rfl, Nat.le_of_ble_eq_true rfl⟩ ?_
    refine v_ifb_eq (tgt := 55) hX dX8_bestSwap_46 rfl (fun c_46 => ?_) (fun c_46 => ?_)
    · refine v_aload_n hX dX8_bestSwap_55 rfl ?_
      refine tv_call0 hX rfl dX8_bestSwap_56 q2536 cf_X8_endTrial hw (mX8_endTrial hw) rfl ⟨rfl, rfl⟩ ⟨Nat.le_of_ble_eq_true rfl, Nat.le_of_ble_eq_true rfl⟩ rfl (Nat.le_of_ble_eq_true rfl) ⟨Nat.le_of_ble_eq_true rfl, Nat.le_of_ble_eq_true rfl⟩ (fun w hw => ?_)
      refine v_iinc (lv' := [_, _, _]) hX dX8_bestSwap_59 rfl li1 rfl rfl ?_
      refine v_goto (tgt := 13) hX dX8_bestSwap_62 rfl ?_
      exact V.at rfl (by rw [nI_1, tw_bs1, tw_bs2, if_neg c_46]) rfl (ih w (hw.to (by rw [tw_bs1, tw_bs2, if_neg c_46])))
    · refine v_aload_n hX dX8_bestSwap_49 rfl ?_
      refine tv_call0 hX rfl dX8_bestSwap_50 q2532 cf_X8_keepsBest hw (mX8_keepsBest hw (hP1.k (tw_dy_k _))) rfl ⟨rfl, rfl⟩ ⟨Nat.le_of_ble_eq_true rfl, Nat.le_of_ble_eq_true rfl⟩ rfl (Nat.le_of_ble_eq_true rfl) ⟨Nat.le_of_ble_eq_true rfl, Nat.le_of_ble_eq_true rfl⟩ (fun w hw => ?_)
      refine v_iload_n hX dX8_bestSwap_53 rfl ?_
      refine v_istore_n (lv' := [_, _, _]) hX dX8_bestSwap_54 (Nat.le_of_ble_eq_true rfl) rfl rfl ?_
      refine v_aload_n hX dX8_bestSwap_55 rfl ?_
      refine tv_call0 hX rfl dX8_bestSwap_56 q2536 cf_X8_endTrial hw (mX8_endTrial hw) rfl ⟨rfl, rfl⟩ ⟨Nat.le_of_ble_eq_true rfl, Nat.le_of_ble_eq_true rfl⟩ rfl (Nat.le_of_ble_eq_true rfl) ⟨Nat.le_of_ble_eq_true rfl, Nat.le_of_ble_eq_true rfl⟩ (fun w hw => ?_)
      refine v_iinc (lv' := [_, _, _]) hX dX8_bestSwap_59 rfl li1 rfl rfl ?_
      refine v_goto (tgt := 13) hX dX8_bestSwap_62 rfl ?_
      exact V.at rfl (by rw [nI_1, tw_bs1, tw_bs2, if_pos c_46]) rfl (ih w (hw.to (by rw [tw_bs1, tw_bs2, if_pos c_46])))
/-- one trial: a place of the second row is set, the day is played; how many are lost -/
def tw_lw (i v : Int32) (x : TS) : TS := tw_dy ((fun y => tU y 1 (y.1 2 + i) v) (tw_bt x))
theorem tr_r {r : Nat → Int32} {x : TS} {i : Nat} {v : Int32} (h : tIr r x) (hi : i < 70) : rIs ((fun y => tU y 1 (y.1 2 + nI i) v) (tw_bt x)) 1 (upd r i v) ∧ rIs ((fun y => tU y 1 (y.1 2 + nI i) v) (tw_bt x)) 0 r := by
  refine ⟨(bt_r1 h.2).set (i := i) (by decide) hi (by rw [bt_2, nI_add]), (bt_r0 h.2).oth (k2 := 1) (i := i) (by decide) hi (by decide) (by rw [bt_2, nI_add])⟩
theorem lw_I {r : Nat → Int32} {x : TS} {i : Nat} {v : Int32} (h : tIr r x) (hi : i < 70) : tIr r (tw_et (tw_lw (nI i) v x)) := tIr.et ((tr_r h hi).2.k (tw_dy_k _))
theorem tr_P {r : Nat → Int32} {x : TS} {i : Nat} {v : Int32} (h : tIr r x) (hi : i < 70) (hk : rOK (upd r i v)) : tP ((fun y => tU y 1 (y.1 2 + nI i) v) (tw_bt x)) := tP_of (k := 1) (tr_r h hi).1 (bt_2 (x := x)) (by decide) hk
theorem tr_in {x : TS} {i : Nat} (hi : i < 70) : vp_in ((tw_bt x).1 2 + nI i) 840 := by rw [bt_2, nI_add]; exact vp_in_nI (by omega) (by decide)
theorem cf_X8_losesWith : CF RX8 yX8_losesWith cX8_losesWith 4 (some .boolean) 2 := ⟨q2546, qs109, q150, q2547, by decide +kernel⟩
theorem mX8_losesWith {Γ : Gm} {l : Launch} {G : Nat → Nat} {wB : Wd} {x : TS} {w : Wd} (hw : tW Γ G wB x w) {r : Nat → Int32} (hI : tIr r x) (i : Nat) (hi : i < 70) (v : Int32) (hk : rOK (upd r i v)) (z : Int32) (hz : z = nI i) : M0 Γ l yX8_losesWith (ws_ yX8_losesWith cX8_losesWith 4 (some .boolean)) (rl 9 0 0) 0 0 [.ref (G 61), .int z, .int v] w (fun r9 w9 => r9 = some (.int (bi (0 < tw_num (tw_lw z v x) 3))) ∧ tW Γ G wB (tw_et (tw_lw z v x)) w9) := by
  refine M0.of (lv := [some (.ref (G 61)), some (.int z), some (.int v), none]) (by decide) (Nat.le_of_ble_eq_true rfl) 1 rfl rfl ?_
  intro X hX hR hl hG hnm
  subst hl; subst hG
  subst hz
  refine v_aload_n hX dX8_losesWith_0 rfl ?_
  refine tv_call0 hX rfl dX8_losesWith_1 q2516 cf_X8_beginTrial hw (mX8_beginTrial hw) rfl ⟨rfl, rfl⟩ ⟨Nat.le_of_ble_eq_true rfl, Nat.le_of_ble_eq_true rfl⟩ rfl (Nat.le_of_ble_eq_true rfl) ⟨Nat.le_of_ble_eq_true rfl, Nat.le_of_ble_eq_true rfl⟩ (fun w hw => ?_)
  refine v_aload_n hX dX8_losesWith_4 rfl ?_
  refine v_iload_n hX dX8_losesWith_5 rfl ?_
  refine v_iload_n hX dX8_losesWith_6 rfl ?_
  refine tv_call0 hX rfl dX8_losesWith_7 q2548 cf_X8_set hw (mX8_set hw _ _ (tr_in hi)) rfl ⟨rfl, rfl⟩ ⟨Nat.le_of_ble_eq_true rfl, Nat.le_of_ble_eq_true rfl⟩ rfl (Nat.le_of_ble_eq_true rfl) ⟨Nat.le_of_ble_eq_true rfl, Nat.le_of_ble_eq_true rfl⟩ (fun w hw => ?_)
  refine v_aload_n hX dX8_losesWith_10 rfl ?_
  refine tv_call0 hX rfl dX8_losesWith_11 q2293 cf_X8_plays hw (mX8_plays1 hw (tr_P hI hi hk)) rfl ⟨rfl, rfl⟩ ⟨Nat.le_of_ble_eq_true rfl, Nat.le_of_ble_eq_true rfl⟩ rfl (Nat.le_of_ble_eq_true rfl) ⟨Nat.le_of_ble_eq_true rfl, Nat.le_of_ble_eq_true rfl⟩ (fun w hw => ?_)
  refine v_aload_n hX dX8_losesWith_14 rfl ?_
  refine v_iconst hX dX8_losesWith_15 li3 ?_
  refine tv_callR hX rfl dX8_losesWith_16 q2456 cf_X8_countOf hw (mX8_countOf hw ((tr_P hI hi hk).k (tw_dy_k _)) _) rfl ⟨rfl, rfl⟩ ⟨Nat.le_of_ble_eq_true rfl, Nat.le_of_ble_eq_true rfl⟩ rfl (Nat.le_of_ble_eq_true rfl) ⟨Nat.le_of_ble_eq_true rfl, Nat.le_of_ble_eq_true rfl⟩ ?_
  refine v_istore_n (lv' := [_, _, _, _]) hX dX8_losesWith_19 (Nat.le_of_ble_eq_true rfl) rfl rfl ?_
  refine v_aload_n hX dX8_losesWith_20 rfl ?_
  refine tv_call0 hX rfl dX8_losesWith_21 q2536 cf_X8_endTrial hw (mX8_endTrial hw) rfl ⟨rfl, rfl⟩ ⟨Nat.le_of_ble_eq_true rfl, Nat.le_of_ble_eq_true rfl⟩ rfl (Nat.le_of_ble_eq_true rfl) ⟨Nat.le_of_ble_eq_true rfl, Nat.le_of_ble_eq_true rfl⟩ (fun w hw => ?_)
  refine v_iload_n hX dX8_losesWith_24 rfl ?_
  refine v_if_le (tgt := 32) hX dX8_losesWith_25 rfl (fun c_25 => ?_) (fun c_25 => ?_)
  · refine v_iconst hX dX8_losesWith_32 li0 ?_
    exact v_zret hX dX8_losesWith_33 hR (Nat.le_of_ble_eq_true rfl) (Nat.le_of_ble_eq_true rfl) (rfl) (⟨congrArg (fun z => some (Value.int z)) (Eq.symm (bi_f (Int32.not_lt.mpr c_25))), hw⟩)
  · refine v_iconst hX dX8_losesWith_28 li1 ?_
    refine v_goto (tgt := 33) hX dX8_losesWith_29 rfl ?_
    exact v_zret hX dX8_losesWith_33 hR (Nat.le_of_ble_eq_true rfl) (Nat.le_of_ble_eq_true rfl) (rfl) (⟨congrArg (fun z => some (Value.int z)) (Eq.symm (bi_t (Int32.not_le.mp c_25))), hw⟩)
def tw_dl (b st : Int32) (x : TS) : TS := tw_un b ((fun y => tU y 1 (y.1 2 + 9 + 3 * b + 1) st) (tw_bt x))
theorem i39 {a : Int32} {k b : Nat} (h : a = nI k) : a + 9 + 3 * nI b + 1 = nI (k + (9 + 3 * b + 1)) := by
  rw [h, show (9 : Int32) = nI 9 from rfl, show (3 : Int32) = nI 3 from rfl, show (1 : Int32) = nI 1 from rfl, pk_mul, nI_add, nI_add, nI_add]; congr 1; omega
theorem dl_r {r : Nat → Int32} {x : TS} {b : Nat} {v : Int32} (h : tIr r x) (hb : b < 20) : rIs ((fun y => tU y 1 (y.1 2 + 9 + 3 * nI b + 1) v) (tw_bt x)) 1 (upd r (9 + 3 * b + 1) v) ∧ rIs ((fun y => tU y 1 (y.1 2 + 9 + 3 * nI b + 1) v) (tw_bt x)) 0 r :=
  ⟨(bt_r1 h.2).set (i := 9 + 3 * b + 1) (by decide) (by omega) (i39 bt_2), (bt_r0 h.2).oth (k2 := 1) (i := 9 + 3 * b + 1) (by decide) (by omega) (by decide) (i39 bt_2)⟩
theorem dl_P {r : Nat → Int32} {x : TS} {b : Nat} {v : Int32} (h : tIr r x) (hb : b < 20) (hk : rOK r) : tP ((fun y => tU y 1 (y.1 2 + 9 + 3 * nI b + 1) v) (tw_bt x)) := tP_of (k := 1) (dl_r h hb).1 (bt_2 (x := x)) (by decide) hk.setb
theorem dl_I {r : Nat → Int32} {x : TS} {b : Nat} {v : Int32} (h : tIr r x) (hb : b < 20) : tIr r (tw_et (tw_dl (nI b) v x)) := tIr.et ((dl_r h hb).2.k (tw_un_k _ _))
theorem dl_n {r : Nat → Int32} {x : TS} {b : Nat} {v : Int32} (h : tIr r x) (hb : b < 20) (hk : rOK r) (hn : b < rn r) : vp_in (nI b) (pn ((fun y => tU y 1 (y.1 2 + 9 + 3 * nI b + 1) v) (tw_bt x))) := by
  have e : pn ((fun y => tU y 1 (y.1 2 + 9 + 3 * nI b + 1) v) (tw_bt x)) = rn r := by
    unfold pn rn
    rw [show tG ((fun y => tU y 1 (y.1 2 + 9 + 3 * nI b + 1) v) (tw_bt x)) 8 = upd r (9 + 3 * b + 1) v 8 from tG_r (i := 8) (dl_r h hb).1 (bt_2 (x := x)) (by decide) (by decide), upd_n (by omega)]
  rw [e]; exact vnI hn (Nat.le_trans hk.1.1 (by decide))
theorem cf_X8_isDoneLater : CF RX8 yX8_isDoneLater cX8_isDoneLater 4 (some .boolean) 2 := ⟨q2558, qs111, q150, q2559, by decide +kernel⟩
theorem mX8_isDoneLater {Γ : Gm} {l : Launch} {G : Nat → Nat} {wB : Wd} {x : TS} {w : Wd} (hw : tW Γ G wB x w) {r : Nat → Int32} (hI : tIr r x) (hk : rOK r) (j : Nat) (hj2 : j < 20) (hn : j < rn r) (st : Int32) (b : Int32) (hb : b = nI j) : M0 Γ l yX8_isDoneLater (ws_ yX8_isDoneLater cX8_isDoneLater 4 (some .boolean)) (rl 9 0 0) 0 0 [.ref (G 61), .int b, .int st] w (fun r9 w9 => r9 = some (.int (bi (tw_state (tw_dl b st x) b = 1))) ∧ tW Γ G wB (tw_et (tw_dl b st x)) w9) := by
  refine M0.of (lv := [some (.ref (G 61)), some (.int b), some (.int st), none]) (by decide) (Nat.le_of_ble_eq_true rfl) 1 rfl rfl ?_
  intro X hX hR hl hG hnm
  subst hl; subst hG
  subst hb
  refine v_aload_n hX dX8_isDoneLater_0 rfl ?_
  refine tv_call0 hX rfl dX8_isDoneLater_1 q2516 cf_X8_beginTrial hw (mX8_beginTrial hw) rfl ⟨rfl, rfl⟩ ⟨Nat.le_of_ble_eq_true rfl, Nat.le_of_ble_eq_true rfl⟩ rfl (Nat.le_of_ble_eq_true rfl) ⟨Nat.le_of_ble_eq_true rfl, Nat.le_of_ble_eq_true rfl⟩ (fun w hw => ?_)
  refine v_aload_n hX dX8_isDoneLater_4 rfl ?_
  refine v_iload_n hX dX8_isDoneLater_5 rfl ?_
  refine v_iconst hX dX8_isDoneLater_6 li1 ?_
  refine v_iload_n hX dX8_isDoneLater_7 rfl ?_
  refine tv_call0 hX rfl dX8_isDoneLater_8 q2524 cf_X8_setBatch hw (mX8_setBatch hw _ _ _ (bidx0 (Or.inr bt_2) (vnI hj2 (by decide)) (vin (by decide)))) rfl ⟨rfl, rfl⟩ ⟨Nat.le_of_ble_eq_true rfl, Nat.le_of_ble_eq_true rfl⟩ rfl (Nat.le_of_ble_eq_true rfl) ⟨Nat.le_of_ble_eq_true rfl, Nat.le_of_ble_eq_true rfl⟩ (fun w hw => ?_)
  refine v_aload_n hX dX8_isDoneLater_11 rfl ?_
  refine v_iload_n hX dX8_isDoneLater_12 rfl ?_
  refine tv_call0 hX rfl dX8_isDoneLater_13 q2560 cf_X8_playsUntil hw (mX8_playsUntil1 hw (dl_P hI hj2 hk) _ (vnI hj2 (by decide))) rfl ⟨rfl, rfl⟩ ⟨Nat.le_of_ble_eq_true rfl, Nat.le_of_ble_eq_true rfl⟩ rfl (Nat.le_of_ble_eq_true rfl) ⟨Nat.le_of_ble_eq_true rfl, Nat.le_of_ble_eq_true rfl⟩ (fun w hw => ?_)
  refine v_join 30 (.int (bi (tw_state (tw_dl (nI j) st x) (nI j) = 1))) ?_ (fun hj => ?_)
  · refine v_istore_n (lv' := [_, _, _, _]) hX dX8_isDoneLater_30 (Nat.le_of_ble_eq_true rfl) rfl rfl ?_
    refine v_aload_n hX dX8_isDoneLater_31 rfl ?_
    refine tv_call0 hX rfl dX8_isDoneLater_32 q2536 cf_X8_endTrial hw (mX8_endTrial hw) rfl ⟨rfl, rfl⟩ ⟨Nat.le_of_ble_eq_true rfl, Nat.le_of_ble_eq_true rfl⟩ rfl (Nat.le_of_ble_eq_true rfl) ⟨Nat.le_of_ble_eq_true rfl, Nat.le_of_ble_eq_true rfl⟩ (fun w hw => ?_)
    refine v_iload_n hX dX8_isDoneLater_35 rfl ?_
    exact v_zret hX dX8_isDoneLater_36 hR (Nat.le_of_ble_eq_true rfl) (Nat.le_of_ble_eq_true rfl) (bi_nar) (⟨rfl, hw⟩)
  · refine v_aload_n hX dX8_isDoneLater_16 rfl ?_
    refine v_iload_n hX dX8_isDoneLater_17 rfl ?_
    refine tv_callR hX rfl dX8_isDoneLater_18 q2407 cf_X8_stateOf hw (mX8_stateOf hw ((dl_P hI hj2 hk).k (tw_un_k _ _)) _ (vp_pn (tw_un_k _ _) (dl_n hI hj2 hk hn))) rfl ⟨rfl, rfl⟩ ⟨Nat.le_of_ble_eq_true rfl, Nat.le_of_ble_eq_true rfl⟩ rfl (Nat.le_of_ble_eq_true rfl) ⟨Nat.le_of_ble_eq_true rfl, Nat.le_of_ble_eq_true rfl⟩ ?_
    refine v_iconst hX dX8_isDoneLater_21 li1 ?_
    refine v_icmp_ne (tgt := 29) hX dX8_isDoneLater_22 rfl (fun c_22 => ?_) (fun c_22 => ?_)
    · refine v_iconst hX dX8_isDoneLater_29 li0 ?_
      exact V.at rfl rfl (by simp [bi, tw_dl, c_22]) hj
    · refine v_iconst hX dX8_isDoneLater_25 li1 ?_
      refine v_goto (tgt := 30) hX dX8_isDoneLater_26 rfl ?_
      exact V.at rfl rfl (by simp [bi, tw_dl, c_22]) hj
end
