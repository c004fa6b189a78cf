/-! the day: run, isDone -/
set_option maxRecDepth 100000
theorem ks1439 : (Int16.ofInt (1439)).toInt32 = 1439 := by decide +kernel
theorem dy_rn1_k (S : Sh) (P : Pl) (i : Nat) (y : DS) : kD (dy_rn1 S P i y) = kD y := by
  unfold dy_rn1; split
  · rfl
  · exact dy_mnt_k
theorem dy_ut1_k (S : Sh) (P : Pl) (b : Int32) (i : Nat) (y : DS) : kD (dy_ut1 S P b i y) = kD y := by
  unfold dy_ut1; split
  · rfl
  · exact dy_mnt_k
/-- the plan of the day that begins -/
theorem dP_beg {Γ : Gm} {S : Sh} {P : Pl} {p q nw : Nat} {wB : Wd} {x : DS} {z : TS} {c : Bool × va_E} (hS : shR Γ S wB) (hO : plO Γ S p P wB) (hz : rP S P nw z) (hq : wB q = none) : dP Γ S P (wup wB q c) (dy_beg P p q x) ∧ R S P nw 0 (dy_beg P p q x) (tw_beg z) ∧ wup wB q c ((dy_beg P p q x).2.1 23) = some c := by
  have h20 := hO.2.2.2.2.1
  obtain ⟨a1, a2, a3, a4, a5, -⟩ := dy_beg_at (p := p) (q := q) (x := x) h20
  refine ⟨⟨hS.new hq, by rw [a4]; exact hO.new hq, hz.2.1.1, a1, h20⟩, R_beg hz, by rw [a5]; exact wup_s⟩
theorem n_min {v c : Nat} (hv : v < 1440) (hc : c ≤ 90) : dy_min 1439 (nI v - nI c) = nI v - nI c := by
  unfold dy_min
  split
  · rfl
  · rename_i h
    apply Int32.toInt_inj.mp
    rw [Int32.lt_iff_toInt_lt, pk_sub_toInt (by omega) (by omega), show (1439 : Int32).toInt = 1439 by decide] at h
    rw [pk_sub_toInt (by omega) (by omega), show (1439 : Int32).toInt = 1439 by decide]
    omega
theorem n_gt {v c i : Nat} (hv : v < 1440) (hc : c ≤ 90) (hi : i < 100000) : nI v - nI c < nI i ↔ v + 1 - c ≤ i := by
  rw [Int32.lt_iff_toInt_lt, pk_sub_toInt (by omega) (by omega), nIt hi]; omega
theorem cf_X3_run : CF RX3 yX3_run cX3_run 4 (Option.some (Jvm.ClassFile.FieldType.object "BakeryPlan$Day")) 2 := ⟨q754, q755, q144, q756, by decide +kernel⟩
theorem mX3_run {Γ : Gm} {l : Launch} (hg : gC Γ) {G : Nat → Nat} {wB : Wd} {x : DS} {w : Wd} (hw : dW Γ G wB x w) {S : Sh} {P : Pl} {p nw : Nat} {z : TS} (hS : shR Γ S wB) (hO : plO Γ S p P wB) (hz : rP S P nw z) {n : Nat} (hn : n ≤ 1440) : M0 Γ l yX3_run (ws_ yX3_run cX3_run 4 (Option.some (Jvm.ClassFile.FieldType.object "BakeryPlan$Day"))) (rl 10 1 0) 1 0 [.ref (G 19), .ref p, .int (nI n)] w (fun r9 w9 => r9 = some (.ref (G 19)) ∧ ∃ q, wB q = none ∧ dW Γ G (wup wB q (true, .inr (pC P.po, []))) (dy_run S P n (dy_beg P p q x)) w9) := by
  refine M0.of (lv := [some (.ref (G 19)), some (.ref p), some (.int (nI n)), none]) (by decide) (Nat.le_of_ble_eq_true rfl) 1 rfl rfl ?_
  intro X hX hR hl hG hnm
  subst hl; subst hG
  refine v_aload_n hX dX3_run_0 rfl ?_
  refine v_aload_n hX dX3_run_1 rfl ?_
  refine v_callV hX rfl dX3_run_2 (mX3_begin hg hw hS hO) cl_3 hw.1 q757 cf_X3_begin.1 cf_X3_begin.2.1 cf_X3_begin.2.2.1 cf_X3_begin.2.2.2.1 ⟨rfl, rfl⟩ cf_X3_begin.2.2.2.2 ⟨Nat.le_of_ble_eq_true rfl, Nat.le_of_ble_eq_true rfl⟩ rfl (Nat.le_of_ble_eq_true rfl) ⟨Nat.le_of_ble_eq_true rfl, Nat.le_of_ble_eq_true rfl⟩ (fun v w h => ?_)
  obtain ⟨rfl, q, hqB, hw⟩ := h
  obtain ⟨hP, hr, ha⟩ := dP_beg (x := x) (c := (true, .inr (pC P.po, []))) hS hO hz hqB
  generalize hx0 : dy_beg P p q x = x0 at hw hP hr ha
  refine V.at rfl rfl (st2 := []) rfl ?_
  refine v_iconst hX dX3_run_5 ki0 ?_
  refine v_istore_n (lv' := [_, _, _, _]) hX dX3_run_6 (Nat.le_of_ble_eq_true rfl) rfl rfl ?_
  refine loop_up (n) (fun i => ∀ w, dW (xG X) G (wup wB q (true, .inr (pC P.po, []))) ((it (dy_rn1 S P) (i) x0)) w → V X w (0 + 1) (0 + 0) 7 [some (.ref (G 19)), some (.ref p), some (.int (nI n)), some (.int (nI (i)))] []) ?_ ?_ 0 (Nat.zero_le _) w hw
  · intro w hw
    refine v_iload_n hX dX3_run_7 rfl ?_
    refine v_iload_n hX dX3_run_8 rfl ?_
    refine v_icmp_ge_t (tgt := 30) hX dX3_run_9 rfl (Int32.le_refl _) ?_
    refine v_aload_n hX dX3_run_30 rfl ?_
    exact v_aret hX dX3_run_31 hR (Nat.le_of_ble_eq_true rfl) (Nat.le_of_ble_eq_true rfl) (Or.inl ⟨_, rfl⟩) (Or.inr ⟨_, rfl⟩) (⟨rfl, q, hqB, by unfold dy_run; rw [hx0]; exact hw⟩)
  · intro i hi ih w hw
    have ih : ∀ w, dW (xG X) G (wup wB q (true, .inr (pC P.po, []))) (((dy_rn1 S P) i (it (dy_rn1 S P) (i) x0))) w → V X w (0 + 1) (0 + 0) 7 [some (.ref (G 19)), some (.ref p), some (.int (nI n)), some (.int (nI (i + 1)))] [] := ih
    have hP : dP (xG X) S P (wup wB q (true, .inr (pC P.po, []))) (it (dy_rn1 S P) i x0) := hP.kd (kd_it (dy_rn1_k _ _) _ _)
    have ha : (wup wB q (true, .inr (pC P.po, []))) ((it (dy_rn1 S P) i x0).2.1 23) = some (true, .inr (pC P.po, [])) := by rw [kD_1 (kd_it (dy_rn1_k _ _) _ _)]; exact ha
    have hr : R S P nw i (it (dy_rn1 S P) i x0) (it tw_day1 i (tw_beg z)) := R_run hr i (by omega)
    generalize it tw_day1 i (tw_beg z) = z1 at hr
    have hst : dy_ov P (it (dy_rn1 S P) i x0) → it (dy_rn1 S P) n x0 = it (dy_rn1 S P) i x0 := fun q => it_stuck (Nat.le_of_lt hi) (fun j => if_pos q)
    generalize (it (dy_rn1 S P) (i) x0) = y at hw ih hP ha hr hst
    refine v_iload_n hX dX3_run_7 rfl ?_
    refine v_iload_n hX dX3_run_8 rfl ?_
    refine v_icmp_ge_f (tgt := 30) hX dX3_run_9 rfl (nI_ge hi (by omega)) ?_
    refine v_aload_n hX dX3_run_12 rfl ?_
    refine dv_callR hX rfl dX3_run_13 q762 cf_X3_isOver hw (mX3_isOver hg hw hP) rfl ⟨rfl, rfl⟩ ⟨Nat.le_of_ble_eq_true rfl, Nat.le_of_ble_eq_true rfl⟩ rfl (Nat.le_of_ble_eq_true rfl) ⟨Nat.le_of_ble_eq_true rfl, Nat.le_of_ble_eq_true rfl⟩ ?_
    refine v_ifb_ne (tgt := 30) hX dX3_run_16 rfl (fun c_16 => ?_) (fun c_16 => ?_)
    · refine v_aload_n hX dX3_run_30 rfl ?_
      exact v_aret hX dX3_run_31 hR (Nat.le_of_ble_eq_true rfl) (Nat.le_of_ble_eq_true rfl) (Or.inl ⟨_, rfl⟩) (Or.inr ⟨_, rfl⟩) (⟨rfl, q, hqB, by unfold dy_run; rw [hx0]; exact hw.to (hst c_16).symm⟩)
    · refine v_aload_n hX dX3_run_19 rfl ?_
      refine v_iload_n hX dX3_run_20 rfl ?_
      refine dv_call0 hX rfl dX3_run_21 q766 cf_X3_minute hw (mX3_minute hg hw hP hr (Nat.lt_of_lt_of_le hi hn) ha) rfl ⟨rfl, rfl⟩ ⟨Nat.le_of_ble_eq_true rfl, Nat.le_of_ble_eq_true rfl⟩ rfl (Nat.le_of_ble_eq_true rfl) ⟨Nat.le_of_ble_eq_true rfl, Nat.le_of_ble_eq_true rfl⟩ (fun w hw => ?_)
      refine v_iinc (lv' := [_, _, _, _]) hX dX3_run_24 rfl ki1 rfl rfl ?_
      refine v_goto (tgt := 7) hX dX3_run_27 rfl ?_
      exact V.at rfl (by rw [nI_1]) rfl (ih w (hw.to (by first | (rw [dy_rn1, if_neg c_16]; done) | (rw [dy_rn1, if_neg c_16]; rfl))))
theorem cf_X3_isDone : CF RX3 yX3_isDone cX3_isDone 5 (some .boolean) 2 := ⟨q1727, q1728, q144, q1729, by decide +kernel⟩
theorem mX3_isDone {Γ : Gm} {l : Launch} (hg : gC Γ) {G : Nat → Nat} {wB : Wd} {x : DS} {w : Wd} (hw : dW Γ G wB x w) {S : Sh} {P : Pl} {p nw : Nat} {z : TS} (hS : shR Γ S wB) (hO : plO Γ S p P wB) (hz : rP S P nw z) {b : Nat} (hb : b < P.nb) : M0 Γ l yX3_isDone (ws_ yX3_isDone cX3_isDone 5 (some .boolean)) (rl 10 1 0) 1 0 [.ref (G 19), .ref p, .int (nI b)] w (fun r9 w9 => ∃ q, wB q = none ∧ r9 = some (.int (bi (dy_state S P (it (dy_ut1 S P (nI b)) (dy_utN S P b) (dy_beg P p q x)) (nI b) = 1))) ∧ dW Γ G (wup wB q (true, .inr (pC P.po, []))) (it (dy_ut1 S P (nI b)) (dy_utN S P b) (dy_beg P p q x)) w9) := by
  refine M0.of (lv := [some (.ref (G 19)), some (.ref p), some (.int (nI b)), none, none]) (by decide) (Nat.le_of_ble_eq_true rfl) 2 rfl rfl ?_
  intro X hX hR hl hG hnm
  subst hl; subst hG
  have h20 := hO.2.2.2.2.1
  have hb20 : vp_in (nI b) 20 := vnI (Nat.lt_of_lt_of_le hb h20) (by decide)
  have hbn : vp_in (nI b) P.nb := vnI hb (Nat.le_trans h20 (by decide))
  obtain ⟨p1, s1, v1, dg, mx, pr, wi, bk, ht, g0, rg, e1, -⟩ := hz.b hb
  obtain ⟨c6, k1, k2⟩ := hz.2.1.2.2.2.2.2.2.2.2.1
  obtain ⟨v, m1, m2⟩ := hz.2.1.2.2.2.2.2.1 v1 g0.2.2.2.1
  have hwv : S.wf (P.bx (nI b).toNatClampNeg).2.2.toNatClampNeg = nI v := by rw [nIc (by omega), e1]; show S.wf (nI v1).toNatClampNeg = _; rw [nIc (by omega)]; exact m2
  have hN : dy_utN S P b = v + 1 - c6 := by
    unfold dy_utN
    rw [e1, k2]
    show (S.wf (nI v1).toNatClampNeg).toNatClampNeg + 1 - (nI c6).toNatClampNeg = _
    rw [nIc (show v1 < 100000 by omega), m2, nIc (by omega), nIc (by omega)]
  have hN4 : dy_utN S P b ≤ 1440 := by omega
  refine v_aload_n hX dX3_isDone_0 rfl ?_
  refine v_aload_n hX dX3_isDone_1 rfl ?_
  refine v_callV hX rfl dX3_isDone_2 (mX3_begin hg hw hS hO) cl_3 hw.1 q757 cf_X3_begin.1 cf_X3_begin.2.1 cf_X3_begin.2.2.1 cf_X3_begin.2.2.2.1 ⟨rfl, rfl⟩ cf_X3_begin.2.2.2.2 ⟨Nat.le_of_ble_eq_true rfl, Nat.le_of_ble_eq_true rfl⟩ rfl (Nat.le_of_ble_eq_true rfl) ⟨Nat.le_of_ble_eq_true rfl, Nat.le_of_ble_eq_true rfl⟩ (fun v w h => ?_)
  obtain ⟨rfl, q, hqB, hw⟩ := h
  obtain ⟨hP, hr, ha⟩ := dP_beg (x := x) (c := (true, .inr (pC P.po, []))) hS hO hz hqB
  generalize hx0 : dy_beg P p q x = x0 at hw hP hr ha
  refine V.at rfl rfl (st2 := []) rfl ?_
  refine v_sipush hX dX3_isDone_5 ks1439 ?_
  refine v_aload_n hX dX3_isDone_8 rfl ?_
  refine dv_get hX dX3_isDone_9 hw 22 (by decide) q629 rfl ?_
  refine v_getM hX dX3_isDone_12 hg in_X2 cl_2 1 (by decide) q527 (fun _ h => h) (hP.2.1.day hw).1 rfl ?_
  refine v_aload_n hX dX3_isDone_15 rfl ?_
  refine dv_get hX dX3_isDone_16 hw 22 (by decide) q629 rfl ?_
  refine v_getM hX dX3_isDone_19 hg in_X2 cl_2 3 (by decide) q536 (fun _ h => h) (hP.2.1.day hw).1 rfl ?_
  refine v_iload_n hX dX3_isDone_22 rfl ?_
  refine v_cVe hX rfl dX3_isDone_23 q888 c2_J2_get q788 rfl cl_11 (hP.2.1.day hw).2.2.1 (m3_get (hP.2.1.day hw) _ (hbn)) rfl ⟨rfl, rfl⟩ ⟨Nat.le_of_ble_eq_true rfl, Nat.le_of_ble_eq_true rfl⟩ rfl (Nat.le_of_ble_eq_true rfl) ⟨Nat.le_of_ble_eq_true rfl, Nat.le_of_ble_eq_true rfl⟩ ?_
  refine v_chk hX dX3_isDone_26 q889 cl_10 (plB_at (hP.2.1.day hw) (hbn)) ?_
  refine v_getM hX dX3_isDone_29 hg in_X12 cl_10 2 (by decide) q981 (fun _ h => h) (plB_at (hP.2.1.day hw) (hbn)) rfl ?_
  refine v_iald hX dX3_isDone_32 (hP.1.day hw).2.2.2.2 (vmono (hP.2.2.1.1 _ (vlt hbn)).2 (Nat.le_refl _)) ?_
  refine v_aload_n hX dX3_isDone_33 rfl ?_
  refine v_bipush hX dX3_isDone_34 kb6 ?_
  refine dv_callR hX rfl dX3_isDone_36 q774 cf_X3_setting hw (mX3_setting hg hw hP _ (vin (by decide))) rfl ⟨rfl, rfl⟩ ⟨Nat.le_of_ble_eq_true rfl, Nat.le_of_ble_eq_true rfl⟩ rfl (Nat.le_of_ble_eq_true rfl) ⟨Nat.le_of_ble_eq_true rfl, Nat.le_of_ble_eq_true rfl⟩ ?_
  refine v_isub hX dX3_isDone_39 ?_
  refine v_mmin hX rfl dX3_isDone_40 q894 (Nat.le_of_ble_eq_true rfl) (Nat.le_of_ble_eq_true rfl) ⟨Nat.le_of_ble_eq_true rfl, Nat.le_of_ble_eq_true rfl⟩ ?_
  refine V.topi (y := nI v - nI c6) (by show dy_min 1439 (S.wf (P.bx (nI b).toNatClampNeg).2.2.toNatClampNeg - P.sf 6) = _; rw [hwv, k2]; exact n_min m1 k1) ?_
  refine v_istore_n (lv' := [_, _, _, _, _]) hX dX3_isDone_43 (Nat.le_of_ble_eq_true rfl) rfl rfl ?_
  refine v_iconst hX dX3_isDone_44 ki0 ?_
  refine v_istore (lv' := [_, _, _, _, _]) hX dX3_isDone_45 (Nat.le_of_ble_eq_true rfl) rfl rfl ?_
  refine loop_up (dy_utN S P b) (fun i => ∀ w, dW (xG X) G (wup wB q (true, .inr (pC P.po, []))) ((it (dy_ut1 S P (nI b)) (i) x0)) w → V X w (0 + 1) (0 + 0) 47 [some (.ref (G 19)), some (.ref p), some (.int (nI b)), some (.int (nI v - nI c6)), some (.int (nI (i)))] []) ?_ ?_ 0 (Nat.zero_le _) w hw
  · intro w hw
    have hP : dP (xG X) S P (wup wB q (true, .inr (pC P.po, []))) (it (dy_ut1 S P (nI b)) (dy_utN S P b) x0) := hP.kd (kd_it (dy_ut1_k _ _ _) _ _)
    have ha : (wup wB q (true, .inr (pC P.po, []))) ((it (dy_ut1 S P (nI b)) (dy_utN S P b) x0).2.1 23) = some (true, .inr (pC P.po, [])) := by rw [kD_1 (kd_it (dy_ut1_k _ _ _) _ _)]; exact ha
    generalize hx1 : it (dy_ut1 S P (nI b)) (dy_utN S P b) x0 = x1 at hw hP
    refine v_iload hX dX3_isDone_47 rfl ?_
    refine v_iload_n hX dX3_isDone_49 rfl ?_
    refine v_icmp_gt_t (tgt := 75) hX dX3_isDone_50 rfl ((n_gt m1 k1 (by omega)).mpr (Nat.le_of_eq hN.symm)) ?_
    refine v_aload_n hX dX3_isDone_75 rfl ?_
    refine v_iload_n hX dX3_isDone_76 rfl ?_
    refine dv_callR hX rfl dX3_isDone_77 q1052 cf_X3_state hw (mX3_state hg hw hP _ hbn) rfl ⟨rfl, rfl⟩ ⟨Nat.le_of_ble_eq_true rfl, Nat.le_of_ble_eq_true rfl⟩ rfl (Nat.le_of_ble_eq_true rfl) ⟨Nat.le_of_ble_eq_true rfl, Nat.le_of_ble_eq_true rfl⟩ ?_
    refine v_iconst hX dX3_isDone_80 ki1 ?_
    refine v_icmp_ne (tgt := 88) hX dX3_isDone_81 rfl (fun c_81 => ?_) (fun c_81 => ?_)
    · refine v_iconst hX dX3_isDone_88 ki0 ?_
      exact v_zret hX dX3_isDone_89 hR (Nat.le_of_ble_eq_true rfl) (Nat.le_of_ble_eq_true rfl) (rfl) (⟨q, hqB, congrArg (fun z => some (Value.int z)) (Eq.symm (by rw [hx0]; exact bi_f (by rw [hx1]; exact c_81))), by rw [hx0]; exact hw.to hx1.symm⟩)
    · refine v_iconst hX dX3_isDone_84 ki1 ?_
      refine v_goto (tgt := 89) hX dX3_isDone_85 rfl ?_
      exact v_zret hX dX3_isDone_89 hR (Nat.le_of_ble_eq_true rfl) (Nat.le_of_ble_eq_true rfl) (rfl) (⟨q, hqB, congrArg (fun z => some (Value.int z)) (Eq.symm (by rw [hx0]; exact bi_t (by rw [hx1]; exact c_81))), by rw [hx0]; exact hw.to hx1.symm⟩)
  · intro i hi ih w hw
    have ih : ∀ w, dW (xG X) G (wup wB q (true, .inr (pC P.po, []))) (((dy_ut1 S P (nI b)) i (it (dy_ut1 S P (nI b)) (i) x0))) w → V X w (0 + 1) (0 + 0) 47 [some (.ref (G 19)), some (.ref p), some (.int (nI b)), some (.int (nI v - nI c6)), some (.int (nI (i + 1)))] [] := ih
    have hP : dP (xG X) S P (wup wB q (true, .inr (pC P.po, []))) (it (dy_ut1 S P (nI b)) i x0) := hP.kd (kd_it (dy_ut1_k _ _ _) _ _)
    have ha : (wup wB q (true, .inr (pC P.po, []))) ((it (dy_ut1 S P (nI b)) i x0).2.1 23) = some (true, .inr (pC P.po, [])) := by rw [kD_1 (kd_it (dy_ut1_k _ _ _) _ _)]; exact ha
    have hr : R S P nw i (it (dy_ut1 S P (nI b)) i x0) (it (tw_unt1 (nI b)) i (tw_beg z)) := R_ut hr hb i (by omega)
    generalize it (tw_unt1 (nI b)) i (tw_beg z) = z1 at hr
    have hst : 4 ≤ eG (it (dy_ut1 S P (nI b)) i x0) 0 (nI b) → it (dy_ut1 S P (nI b)) (dy_utN S P b) x0 = it (dy_ut1 S P (nI b)) i x0 := fun q => it_stuck (Nat.le_of_lt hi) (fun j => if_pos q)
    generalize (it (dy_ut1 S P (nI b)) (i) x0) = y at hw ih hP ha hr hst
    refine v_iload hX dX3_isDone_47 rfl ?_
    refine v_iload_n hX dX3_isDone_49 rfl ?_
    refine v_icmp_gt_f (tgt := 75) hX dX3_isDone_50 rfl (fun q => absurd ((n_gt m1 k1 (by omega)).mp q) (by omega)) ?_
    refine v_aload_n hX dX3_isDone_53 rfl ?_
    refine dv_get hX dX3_isDone_54 hw 0 (by decide) q591 rfl ?_
    refine v_iload_n hX dX3_isDone_57 rfl ?_
    refine dv_iald hX dX3_isDone_58 hw (by decide) rfl rfl (hb20) ?_
    refine v_iconst hX dX3_isDone_59 ki4 ?_
    refine v_icmp_ge (tgt := 75) hX dX3_isDone_60 rfl (fun c_60 => ?_) (fun c_60 => ?_)
    · refine v_aload_n hX dX3_isDone_75 rfl ?_
      refine v_iload_n hX dX3_isDone_76 rfl ?_
      refine dv_callR hX rfl dX3_isDone_77 q1052 cf_X3_state hw (mX3_state hg hw hP _ hbn) rfl ⟨rfl, rfl⟩ ⟨Nat.le_of_ble_eq_true rfl, Nat.le_of_ble_eq_true rfl⟩ rfl (Nat.le_of_ble_eq_true rfl) ⟨Nat.le_of_ble_eq_true rfl, Nat.le_of_ble_eq_true rfl⟩ ?_
      refine v_iconst hX dX3_isDone_80 ki1 ?_
      refine v_icmp_ne (tgt := 88) hX dX3_isDone_81 rfl (fun c_81 => ?_) (fun c_81 => ?_)
      · refine v_iconst hX dX3_isDone_88 ki0 ?_
        exact v_zret hX dX3_isDone_89 hR (Nat.le_of_ble_eq_true rfl) (Nat.le_of_ble_eq_true rfl) (rfl) (⟨q, hqB, congrArg (fun z => some (Value.int z)) (Eq.symm (by rw [hx0]; exact bi_f (by rw [hst c_60]; exact c_81))), by rw [hx0]; exact hw.to (hst c_60).symm⟩)
      · refine v_iconst hX dX3_isDone_84 ki1 ?_
        refine v_goto (tgt := 89) hX dX3_isDone_85 rfl ?_
        exact v_zret hX dX3_isDone_89 hR (Nat.le_of_ble_eq_true rfl) (Nat.le_of_ble_eq_true rfl) (rfl) (⟨q, hqB, congrArg (fun z => some (Value.int z)) (Eq.symm (by rw [hx0]; exact bi_t (by rw [hst c_60]; exact c_81))), by rw [hx0]; exact hw.to (hst c_60).symm⟩)
    · refine v_aload_n hX dX3_isDone_63 rfl ?_
      refine v_iload hX dX3_isDone_64 rfl ?_
      refine dv_call0 hX rfl dX3_isDone_66 q766 cf_X3_minute hw (mX3_minute hg hw hP hr (by omega) ha) rfl ⟨rfl, rfl⟩ ⟨Nat.le_of_ble_eq_true rfl, Nat.le_of_ble_eq_true rfl⟩ rfl (Nat.le_of_ble_eq_true rfl) ⟨Nat.le_of_ble_eq_true rfl, Nat.le_of_ble_eq_true rfl⟩ (fun w hw => ?_)
      refine v_iinc (lv' := [_, _, _, _, _]) hX dX3_isDone_69 rfl ki1 rfl rfl ?_
      refine v_goto (tgt := 47) hX dX3_isDone_72 rfl ?_
      exact V.at rfl (by rw [nI_1]) rfl (ih w (hw.to (by first | (rw [dy_ut1, if_neg c_60]; done) | (rw [dy_ut1, if_neg c_60]; rfl))))
