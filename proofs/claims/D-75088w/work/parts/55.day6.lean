/-! the day: what a minute does -/
set_option maxRecDepth 100000
/-- what the steps keep: the references, the count -/
def kD (x : DS) : (Nat → Nat) × Int32 := (x.2.1, x.1 21)
theorem dP.kd {Γ : Gm} {S : Sh} {P : Pl} {wB : Wd} {x y : DS} (h : dP Γ S P wB x) (e : kD y = kD x) : dP Γ S P wB y := by
  have e1 : y.2.1 = x.2.1 := congrArg (fun q : (Nat → Nat) × Int32 => q.1) e
  have e2 : y.1 21 = x.1 21 := congrArg (fun q : (Nat → Nat) × Int32 => q.2) e
  exact h.k (by unfold dK; rw [e1, e2])
theorem kD_1 {x y : DS} (e : kD y = kD x) : y.2.1 = x.2.1 := congrArg (fun q : (Nat → Nat) × Int32 => q.1) e
section DPUT
variable {X : Cx} {w wB : Wd} {k n pc nL : Nat} {lv : List (Option Value)} {st : List Value} {cc : ByteArray} {G : Nat → Nat} {x : DS} {index : Nat} {RM : Room}
theorem dv_putI {v : Int32} (hX : OK X cc RX3 nL RM) (hd : decode cc pc = .ok (.putfield index, 3)) (hw : dW (xG X) G wB x w) (j : Nat) (hj : j < 24) (hlink : Cond.fieldLink RX3 index (TX3 j).1 (TX3 j).2.1 (TX3 j).2.2.1 ∈ lw_all) (hfin : (TX3 j).2.2.2 = false) (hn : narrow (tyX3 j) (.int v) = .int v) (hfit : fits (tyX3 j) (.int v) = true) (hs : (dfs G x).set j (.int v) = dfs G (eI x j v)) (kk : ∀ w, dW (xG X) G wB (eI x j v) w → V X w k n (pc + 3) lv st) : V X w k n pc lv (.int v :: .ref (G 19) :: st) := dv_put hX hd hw j hj hlink hfin hn hfit hs rfl kk
theorem dv_putR {v : Nat} (hX : OK X cc RX3 nL RM) (hd : decode cc pc = .ok (.putfield index, 3)) (hw : dW (xG X) G wB x w) (j : Nat) (hj : j < 24) (hlink : Cond.fieldLink RX3 index (TX3 j).1 (TX3 j).2.1 (TX3 j).2.2.1 ∈ lw_all) (hfin : (TX3 j).2.2.2 = false) (hn : narrow (tyX3 j) (.ref v) = .ref v) (hfit : fits (tyX3 j) (.ref v) = true) (hs : (dfs G x).set j (.ref v) = dfs G (eR x j v)) (kk : ∀ w, dW (xG X) G wB (eR x j v) w → V X w k n (pc + 3) lv st) : V X w k n pc lv (.ref v :: .ref (G 19) :: st) := dv_put hX hd hw j hj hlink hfin hn hfit hs rfl kk
end DPUT
theorem kd_it {f : Nat → DS → DS} (h : ∀ i y, kD (f i y) = kD y) (n : Nat) (x : DS) : kD (it f n x) = kD x := it_keep kD h n x
theorem R.mx {S : Sh} {P : Pl} {nw T i : Nat} {x : DS} {y : TS} (h : R S P nw T x y) (hi : i < 3) : eG x 12 (nI i) = -1 ∨ vp_in (eG x 12 (nI i)) P.nb := by
  have h20 := h.nb
  have ci : (nI i).toNatClampNeg = i := nIc (by omega)
  obtain ⟨m1, -, -, m4⟩ := h.2.2.2.1 i hi
  simp only [eG, ci, m1]
  rcases m4 with e | ⟨-, b, hb, e, -⟩
  · exact Or.inl e
  · rw [e]; exact Or.inr (vnI hb (by omega))
theorem R.tk {S : Sh} {P : Pl} {nw T i : Nat} {x : DS} {y : TS} (h : R S P nw T x y) (hi : i < 4) : eG x 16 (nI i) = -1 ∨ vp_in (eG x 16 (nI i)) P.nb := by
  have h20 := h.nb
  have ci : (nI i).toNatClampNeg = i := nIc (by omega)
  obtain ⟨-, -, -, m4⟩ := h.2.2.2.2.1 i hi
  simp only [eG, ci]
  rcases m4 with ⟨e, -⟩ | ⟨b, hb, e, -⟩ | ⟨b, hb, e, -⟩
  · exact Or.inl e
  · rw [e]; exact Or.inr (vnI hb (by omega))
  · rw [e]; exact Or.inr (vnI hb (by omega))
theorem vor {v : Int32} {n m : Nat} (h : v = -1 ∨ vp_in v n) (hm : n ≤ m) : v = -1 ∨ vp_in v m := h.imp_right (fun q => vmono q hm)
theorem dy_en1_k (t : Int32) (i : Nat) (y : DS) : kD (dy_en1 t i y) = kD y := by
  unfold dy_en1; repeat' split
  all_goals rfl
theorem dy_en2_k (S : Sh) (P : Pl) (t : Int32) (i : Nat) (y : DS) : kD (dy_en2 S P t i y) = kD y := by
  unfold dy_en2; repeat' split
  all_goals rfl
theorem dy_un1_k (b : Int32) (i : Nat) (y : DS) : kD (dy_un1 b i y) = kD y := by
  unfold dy_un1; repeat' split
  all_goals rfl
theorem dy_sp1_k (S : Sh) (P : Pl) (t : Int32) (i : Nat) (y : DS) : kD (dy_sp1 S P t i y) = kD y := by
  unfold dy_sp1 dy_un; repeat' split
  · exact (kd_it (dy_un1_k _) 4 _).trans rfl
  · rfl
  · rfl
theorem dy_rs1_k (S : Sh) (P : Pl) (i : Nat) (y : DS) : kD (dy_rs1 S P i y) = kD y := by
  unfold dy_rs1; repeat' split
  all_goals rfl
theorem dy_ba1_k (S : Sh) (P : Pl) (t : Int32) (i : Nat) (y : DS) : kD (dy_ba1 S P t i y) = kD y := by
  unfold dy_ba1 dy_baU; repeat' split
  all_goals rfl
theorem dy_sh1_k (S : Sh) (P : Pl) (i : Nat) (s : DS × Int32) : kD (dy_sh1 S P i s).1 = kD s.1 := by
  unfold dy_sh1; repeat' split
  all_goals rfl
theorem dy_mx1_k (S : Sh) (P : Pl) (t : Int32) (i : Nat) (y : DS) : kD (dy_mx1 S P t i y) = kD y := by
  unfold dy_mx1 dy_mxB dy_mxD; repeat' split
  all_goals rfl
theorem dy_gr1_k (P : Pl) (i : Nat) (y : DS) : kD (dy_gr1 P i y) = kD y := by
  unfold dy_gr1; repeat' split
  all_goals rfl
theorem dy_gd1_k (S : Sh) (P : Pl) (i : Nat) (y : DS) : kD (dy_gd1 S P i y) = kD y := by
  have h1 : ∀ z : DS, kD (dy_gh S P (nI i) z) = kD z := by
    intro z; unfold dy_gh dy_ghU; repeat' split
    all_goals rfl
  have h2 : kD (dy_gb (nI i) y) = kD y := by
    unfold dy_gb; split <;> rfl
  unfold dy_gd1
  rw [h1, h2]
theorem cf_X3_end : CF RX3 yX3_end cX3_end 3 none 1 := ⟨q772, qs5, q144, q773, by decide +kernel⟩
theorem mX3_end {Γ : Gm} {l : Launch} (hg : gC Γ) {G : Nat → Nat} {wB : Wd} {x : DS} {w : Wd} (hw : dW Γ G wB x w) {S : Sh} {P : Pl} (hP : dP Γ S P wB x) {nw T : Nat} {z : TS} (hr : R S P nw T x z) {t : Nat} (ht : t < 1440) : M0 Γ l yX3_end (ws_ yX3_end cX3_end 3 none) (rl 4 0 0) 0 0 [.ref (G 19), .int (nI t)] w (fun r9 w9 => r9 = none ∧ dW Γ G wB (dy_end S P (nI t) x) w9) := by
  refine M0.of (lv := [some (.ref (G 19)), some (.int (nI t)), none]) (by decide) (Nat.le_of_ble_eq_true rfl) 1 rfl rfl ?_
  intro X hX hR hl hG hnm
  subst hl; subst hG
  refine v_iconst hX dX3_end_0 ki0 ?_
  refine v_istore_n (lv' := [_, _, _]) hX dX3_end_1 (Nat.le_of_ble_eq_true rfl) rfl rfl ?_
  refine loop_up (qm P) (fun i => ∀ w, dW (xG X) G wB ((it (dy_en1 (nI t)) (i) x)) w → V X w 0 0 2 [some (.ref (G 19)), some (.int (nI t)), some (.int (nI (i)))] []) ?_ ?_ 0 (Nat.zero_le _) w hw
  · intro w hw
    have hP : dP (xG X) S P wB (it (dy_en1 (nI t)) (qm P) x) := hP.kd (kd_it (dy_en1_k _) _ _)
    have hr : R S P nw T (it (dy_en1 (nI t)) (qm P) x) (it (tw_fin1 (nI t)) (qm P) z) := R_end1 hr (Nat.le_refl _)
    generalize hx1 : (it (dy_en1 (nI t)) (qm P) x) = x1 at hw hP hr
    generalize it (tw_fin1 (nI t)) (qm P) z = z1 at hr
    refine v_iload_n hX dX3_end_2 rfl ?_
    refine v_aload_n hX dX3_end_3 rfl ?_
    refine v_iconst hX dX3_end_4 ki0 ?_
    refine dv_callR hX rfl dX3_end_5 q774 cf_X3_setting hw (mX3_setting hg hw hP _ (vin (by decide))) rfl ⟨rfl, rfl⟩ ⟨Nat.le_of_ble_eq_true rfl, Nat.le_of_ble_eq_true rfl⟩ rfl (Nat.le_of_ble_eq_true rfl) ⟨Nat.le_of_ble_eq_true rfl, Nat.le_of_ble_eq_true rfl⟩ ?_
    refine v_icmp_ge_t (tgt := 68) hX dX3_end_8 rfl (ge_x (show pS P 0 = nI (qm P) from hP.2.2.1.2.1.1) rfl) ?_
    refine v_iconst hX dX3_end_68 ki0 ?_
    refine v_istore_n (lv' := [_, _, _]) hX dX3_end_69 (Nat.le_of_ble_eq_true rfl) rfl rfl ?_
    refine loop_up (qd P) (fun i => ∀ w, dW (xG X) G wB ((it (dy_en2 S P (nI t)) (i) x1)) w → V X w 0 0 70 [some (.ref (G 19)), some (.int (nI t)), some (.int (nI (i)))] []) ?_ ?_ 0 (Nat.zero_le _) w hw
    · intro w hw
      have hP : dP (xG X) S P wB (it (dy_en2 S P (nI t)) (qd P) x1) := hP.kd (kd_it (dy_en2_k _ _ _) _ _)
      have hr : R S P nw T (it (dy_en2 S P (nI t)) (qd P) x1) (it (tw_fin2 (nI t)) (qd P) z1) := R_end2 hr ht (Nat.le_refl _)
      refine v_iload_n hX dX3_end_70 rfl ?_
      refine v_aload_n hX dX3_end_71 rfl ?_
      refine v_iconst hX dX3_end_72 ki1 ?_
      refine dv_callR hX rfl dX3_end_73 q774 cf_X3_setting hw (mX3_setting hg hw hP _ (vin (by decide))) rfl ⟨rfl, rfl⟩ ⟨Nat.le_of_ble_eq_true rfl, Nat.le_of_ble_eq_true rfl⟩ rfl (Nat.le_of_ble_eq_true rfl) ⟨Nat.le_of_ble_eq_true rfl, Nat.le_of_ble_eq_true rfl⟩ ?_
      refine v_icmp_ge_t (tgt := 156) hX dX3_end_76 rfl (ge_x (show pS P 1 = nI (qd P) from hP.2.2.1.2.2.1.1) rfl) ?_
      exact v_vret hX dX3_end_156 hR (Nat.le_of_ble_eq_true rfl) (Nat.le_of_ble_eq_true rfl) (⟨rfl, by unfold dy_end; rw [hx1]; exact hw⟩)
    · intro i hi ih w hw
      have ih : ∀ w, dW (xG X) G wB (((dy_en2 S P (nI t)) i (it (dy_en2 S P (nI t)) (i) x1))) w → V X w 0 0 70 [some (.ref (G 19)), some (.int (nI t)), some (.int (nI (i + 1)))] [] := ih
      have hP : dP (xG X) S P wB (it (dy_en2 S P (nI t)) i x1) := hP.kd (kd_it (dy_en2_k _ _ _) _ _)
      have hr : R S P nw T (it (dy_en2 S P (nI t)) i x1) (it (tw_fin2 (nI t)) i z1) := R_end2 hr ht (Nat.le_of_lt hi)
      have ht4 := hr.tk (Nat.lt_of_lt_of_le hi hr.qd)
      have h4 : vp_in (nI i) 4 := vnI (Nat.lt_of_lt_of_le hi hr.qd) (by decide)
      generalize (it (dy_en2 S P (nI t)) (i) x1) = y at hw ih hP hr ht4
      refine v_iload_n hX dX3_end_70 rfl ?_
      refine v_aload_n hX dX3_end_71 rfl ?_
      refine v_iconst hX dX3_end_72 ki1 ?_
      refine dv_callR hX rfl dX3_end_73 q774 cf_X3_setting hw (mX3_setting hg hw hP _ (vin (by decide))) rfl ⟨rfl, rfl⟩ ⟨Nat.le_of_ble_eq_true rfl, Nat.le_of_ble_eq_true rfl⟩ rfl (Nat.le_of_ble_eq_true rfl) ⟨Nat.le_of_ble_eq_true rfl, Nat.le_of_ble_eq_true rfl⟩ ?_
      refine v_icmp_ge_f (tgt := 156) hX dX3_end_76 rfl (ge_s (show pS P 1 = nI (qd P) from hP.2.2.1.2.2.1.1) hi (Nat.le_trans hP.2.2.1.2.2.1.2.2 (by decide))) ?_
      refine v_aload_n hX dX3_end_79 rfl ?_
      refine v_iload_n hX dX3_end_80 rfl ?_
      refine dv_callR hX rfl dX3_end_81 q778 cf_X3_isBaking hw (mX3_isBaking hg hw _ h4 (vor ht4 hP.2.2.2.2)) rfl ⟨rfl, rfl⟩ ⟨Nat.le_of_ble_eq_true rfl, Nat.le_of_ble_eq_true rfl⟩ rfl (Nat.le_of_ble_eq_true rfl) ⟨Nat.le_of_ble_eq_true rfl, Nat.le_of_ble_eq_true rfl⟩ ?_
      refine v_ifb_eq (tgt := 150) hX dX3_end_84 rfl (fun c_84 => ?_) (fun c_84 => ?_)
      · refine v_iinc (lv' := [_, _, _]) hX dX3_end_150 rfl ki1 rfl rfl ?_
        refine v_goto (tgt := 70) hX dX3_end_153 rfl ?_
        exact V.at rfl (by rw [nI_1]) rfl (ih w (hw.to (by first | (rw [dy_en2, if_neg c_84]; done) | (rw [dy_en2, if_neg c_84]; rfl))))
      · refine v_aload_n hX dX3_end_87 rfl ?_
        refine dv_get hX dX3_end_88 hw 5 (by decide) q600 rfl ?_
        refine v_aload_n hX dX3_end_91 rfl ?_
        refine dv_get hX dX3_end_92 hw 16 (by decide) q618 rfl ?_
        refine v_iload_n hX dX3_end_95 rfl ?_
        refine dv_iald hX dX3_end_96 hw (by decide) rfl rfl (h4) ?_
        refine dv_iald hX dX3_end_97 hw (by decide) rfl rfl ((vor ht4 hP.2.2.2.2).resolve_left c_84.1) ?_
        refine v_aload_n hX dX3_end_98 rfl ?_
        refine dv_get hX dX3_end_99 hw 22 (by decide) q629 rfl ?_
        refine v_aload_n hX dX3_end_102 rfl ?_
        refine dv_get hX dX3_end_103 hw 16 (by decide) q618 rfl ?_
        refine v_iload_n hX dX3_end_106 rfl ?_
        refine dv_iald hX dX3_end_107 hw (by decide) rfl rfl (h4) ?_
        refine v_cVe hX rfl dX3_end_108 q782 c2_X2_productOf q784 rfl cl_2 (hP.2.1.day hw).1 (m3_productOf hg (hP.1.day hw) (hP.2.1.day hw) hP.2.2.1 _ (ht4.resolve_left c_84.1)) rfl ⟨rfl, rfl⟩ ⟨Nat.le_of_ble_eq_true rfl, Nat.le_of_ble_eq_true rfl⟩ rfl (Nat.le_of_ble_eq_true rfl) ⟨Nat.le_of_ble_eq_true rfl, Nat.le_of_ble_eq_true rfl⟩ ?_
        refine v_getM hX dX3_end_111 hg in_X11 cl_9 5 (by decide) q1374 (fun _ h => h) (plX_at (hP.1.day hw) hP.2.2.1 (ht4.resolve_left c_84.1)) rfl ?_
        refine v_iadd hX dX3_end_114 ?_
        refine v_iload_n hX dX3_end_115 rfl ?_
        refine v_icmp_ne (tgt := 150) hX dX3_end_116 rfl (fun c_116 => ?_) (fun c_116 => ?_)
        · refine v_iinc (lv' := [_, _, _]) hX dX3_end_150 rfl ki1 rfl rfl ?_
          refine v_goto (tgt := 70) hX dX3_end_153 rfl ?_
          exact V.at rfl (by rw [nI_1]) rfl (ih w (hw.to (by first | (rw [dy_en2, if_pos c_84, if_neg c_116]; done) | (rw [dy_en2, if_pos c_84, if_neg c_116]; rfl))))
        · refine v_aload_n hX dX3_end_119 rfl ?_
          refine dv_get hX dX3_end_120 hw 0 (by decide) q591 rfl ?_
          refine v_aload_n hX dX3_end_123 rfl ?_
          refine dv_get hX dX3_end_124 hw 16 (by decide) q618 rfl ?_
          refine v_iload_n hX dX3_end_127 rfl ?_
          refine dv_iald hX dX3_end_128 hw (by decide) rfl rfl (h4) ?_
          refine v_iconst hX dX3_end_129 ki4 ?_
          refine dv_iast hX dX3_end_130 hw (by decide) rfl rfl ((vor ht4 hP.2.2.2.2).resolve_left c_84.1) (fun w hw => ?_)
          refine v_aload_n hX dX3_end_131 rfl ?_
          refine dv_get hX dX3_end_132 hw 6 (by decide) q602 rfl ?_
          refine v_aload_n hX dX3_end_135 rfl ?_
          refine dv_get hX dX3_end_136 hw 16 (by decide) q618 rfl ?_
          refine v_iload_n hX dX3_end_139 rfl ?_
          refine dv_iald hX dX3_end_140 hw (by decide) rfl rfl (h4) ?_
          refine v_iload_n hX dX3_end_141 rfl ?_
          refine dv_iast hX dX3_end_142 hw (by decide) rfl rfl ((vor ht4 hP.2.2.2.2).resolve_left c_84.1) (fun w hw => ?_)
          refine v_aload_n hX dX3_end_143 rfl ?_
          refine dv_get hX dX3_end_144 hw 16 (by decide) q618 rfl ?_
          refine v_iload_n hX dX3_end_147 rfl ?_
          refine v_iconst hX dX3_end_148 kim1 ?_
          refine dv_iast hX dX3_end_149 hw (by decide) rfl rfl (h4) (fun w hw => ?_)
          refine v_iinc (lv' := [_, _, _]) hX dX3_end_150 rfl ki1 rfl rfl ?_
          refine v_goto (tgt := 70) hX dX3_end_153 rfl ?_
          exact V.at rfl (by rw [nI_1]) rfl (ih w (hw.to (by first | (rw [dy_en2, if_pos c_84, if_pos c_116]; done) | (rw [dy_en2, if_pos c_84, if_pos c_116]; rfl))))
  · intro i hi ih w hw
    have ih : ∀ w, dW (xG X) G wB (((dy_en1 (nI t)) i (it (dy_en1 (nI t)) (i) x))) w → V X w 0 0 2 [some (.ref (G 19)), some (.int (nI t)), some (.int (nI (i + 1)))] [] := ih
    have hP : dP (xG X) S P wB (it (dy_en1 (nI t)) i x) := hP.kd (kd_it (dy_en1_k _) _ _)
    have hr : R S P nw T (it (dy_en1 (nI t)) i x) (it (tw_fin1 (nI t)) i z) := R_end1 hr (Nat.le_of_lt hi)
    have hm := hr.mx (Nat.lt_of_lt_of_le hi hr.qm)
    have h3 : vp_in (nI i) 3 := vnI (Nat.lt_of_lt_of_le hi hr.qm) (by decide)
    generalize (it (dy_en1 (nI t)) (i) x) = y at hw ih hP hr hm
    refine v_iload_n hX dX3_end_2 rfl ?_
    refine v_aload_n hX dX3_end_3 rfl ?_
    refine v_iconst hX dX3_end_4 ki0 ?_
    refine dv_callR hX rfl dX3_end_5 q774 cf_X3_setting hw (mX3_setting hg hw hP _ (vin (by decide))) rfl ⟨rfl, rfl⟩ ⟨Nat.le_of_ble_eq_true rfl, Nat.le_of_ble_eq_true rfl⟩ rfl (Nat.le_of_ble_eq_true rfl) ⟨Nat.le_of_ble_eq_true rfl, Nat.le_of_ble_eq_true rfl⟩ ?_
    refine v_icmp_ge_f (tgt := 68) hX dX3_end_8 rfl (ge_s (show pS P 0 = nI (qm P) from hP.2.2.1.2.1.1) hi (Nat.le_trans hP.2.2.1.2.1.2.2 (by decide))) ?_
    refine v_aload_n hX dX3_end_11 rfl ?_
    refine dv_get hX dX3_end_12 hw 12 (by decide) q613 rfl ?_
    refine v_iload_n hX dX3_end_15 rfl ?_
    refine dv_iald hX dX3_end_16 hw (by decide) rfl rfl (h3) ?_
    refine v_iconst hX dX3_end_17 kim1 ?_
    refine v_icmp_eq (tgt := 62) hX dX3_end_18 rfl (fun c_18 => ?_) (fun c_18 => ?_)
    · refine v_iinc (lv' := [_, _, _]) hX dX3_end_62 rfl ki1 rfl rfl ?_
      refine v_goto (tgt := 2) hX dX3_end_65 rfl ?_
      exact V.at rfl (by rw [nI_1]) rfl (ih w (hw.to (by first | (rw [dy_en1, if_pos c_18]; done) | (rw [dy_en1, if_pos c_18]; rfl))))
    · refine v_aload_n hX dX3_end_21 rfl ?_
      refine dv_get hX dX3_end_22 hw 13 (by decide) q614 rfl ?_
      refine v_iload_n hX dX3_end_25 rfl ?_
      refine dv_iald hX dX3_end_26 hw (by decide) rfl rfl (h3) ?_
      refine v_iload_n hX dX3_end_27 rfl ?_
      refine v_icmp_ne (tgt := 62) hX dX3_end_28 rfl (fun c_28 => ?_) (fun c_28 => ?_)
      · refine v_iinc (lv' := [_, _, _]) hX dX3_end_62 rfl ki1 rfl rfl ?_
        refine v_goto (tgt := 2) hX dX3_end_65 rfl ?_
        exact V.at rfl (by rw [nI_1]) rfl (ih w (hw.to (by first | (rw [dy_en1, if_neg c_18, if_neg c_28]; done) | (rw [dy_en1, if_neg c_18, if_neg c_28]; rfl))))
      · refine v_aload_n hX dX3_end_31 rfl ?_
        refine dv_get hX dX3_end_32 hw 0 (by decide) q591 rfl ?_
        refine v_aload_n hX dX3_end_35 rfl ?_
        refine dv_get hX dX3_end_36 hw 12 (by decide) q613 rfl ?_
        refine v_iload_n hX dX3_end_39 rfl ?_
        refine dv_iald hX dX3_end_40 hw (by decide) rfl rfl (h3) ?_
        refine v_iconst hX dX3_end_41 ki2 ?_
        refine dv_iast hX dX3_end_42 hw (by decide) rfl rfl ((vor hm hP.2.2.2.2).resolve_left c_18) (fun w hw => ?_)
        refine v_aload_n hX dX3_end_43 rfl ?_
        refine dv_get hX dX3_end_44 hw 3 (by decide) q596 rfl ?_
        refine v_aload_n hX dX3_end_47 rfl ?_
        refine dv_get hX dX3_end_48 hw 12 (by decide) q613 rfl ?_
        refine v_iload_n hX dX3_end_51 rfl ?_
        refine dv_iald hX dX3_end_52 hw (by decide) rfl rfl (h3) ?_
        refine v_iload_n hX dX3_end_53 rfl ?_
        refine dv_iast hX dX3_end_54 hw (by decide) rfl rfl ((vor hm hP.2.2.2.2).resolve_left c_18) (fun w hw => ?_)
        refine v_aload_n hX dX3_end_55 rfl ?_
        refine dv_get hX dX3_end_56 hw 12 (by decide) q613 rfl ?_
        refine v_iload_n hX dX3_end_59 rfl ?_
        refine v_iconst hX dX3_end_60 kim1 ?_
        refine dv_iast hX dX3_end_61 hw (by decide) rfl rfl (h3) (fun w hw => ?_)
        refine v_iinc (lv' := [_, _, _]) hX dX3_end_62 rfl ki1 rfl rfl ?_
        refine v_goto (tgt := 2) hX dX3_end_65 rfl ?_
        exact V.at rfl (by rw [nI_1]) rfl (ih w (hw.to (by first | (rw [dy_en1, if_neg c_18, if_pos c_28]; done) | (rw [dy_en1, if_neg c_18, if_pos c_28]; rfl))))
theorem cf_X3_spoil : CF RX3 yX3_spoil cX3_spoil 4 none 1 := ⟨q804, qs7, q144, q805, by decide +kernel⟩
theorem mX3_spoil {Γ : Gm} {l : Launch} (hg : gC Γ) {G : Nat → Nat} {wB : Wd} {x : DS} {w : Wd} (hw : dW Γ G wB x w) {S : Sh} {P : Pl} (hP : dP Γ S P wB x) {nw T : Nat} {z : TS} (hr : R S P nw T x z) {t : Nat} : M0 Γ l yX3_spoil (ws_ yX3_spoil cX3_spoil 4 none) (rl 6 0 0) 0 0 [.ref (G 19), .int (nI t)] w (fun r9 w9 => r9 = none ∧ dW Γ G wB (dy_spo S P (nI t) x) w9) := by
  refine M0.of (lv := [some (.ref (G 19)), some (.int (nI t)), none, none]) (by decide) (Nat.le_of_ble_eq_true rfl) 2 rfl rfl ?_
  intro X hX hR hl hG hnm
  subst hl; subst hG
  refine v_iconst hX dX3_spoil_0 ki0 ?_
  refine v_istore_n (lv' := [_, _, _, _]) hX dX3_spoil_1 (Nat.le_of_ble_eq_true rfl) rfl rfl ?_
  refine V.no (lv' := [_, _, _, _]) 3 rfl ?_
  refine loop_up (P.nb) (fun i => ∀ w, dW (xG X) G wB ((it (dy_sp1 S P (nI t)) (i) x)) w → V X w 0 0 2 [some (.ref (G 19)), some (.int (nI t)), some (.int (nI (i))), none] []) ?_ ?_ 0 (Nat.zero_le _) w hw
  · intro w hw
    have hP : dP (xG X) S P wB (it (dy_sp1 S P (nI t)) P.nb x) := hP.kd (kd_it (dy_sp1_k _ _ _) _ _)
    refine v_iload_n hX dX3_spoil_2 rfl ?_
    refine v_aload_n hX dX3_spoil_3 rfl ?_
    refine dv_get hX dX3_spoil_4 hw 21 (by decide) q628 rfl ?_
    refine v_icmp_ge_t (tgt := 103) hX dX3_spoil_7 rfl (ge_x hP.2.2.2.1 rfl) ?_
    exact v_vret hX dX3_spoil_103 hR (Nat.le_of_ble_eq_true rfl) (Nat.le_of_ble_eq_true rfl) (⟨rfl, hw⟩)
  · intro i hi ih w hw
    have ih : ∀ w, dW (xG X) G wB (((dy_sp1 S P (nI t)) i (it (dy_sp1 S P (nI t)) (i) x))) w → V X w 0 0 2 [some (.ref (G 19)), some (.int (nI t)), some (.int (nI (i + 1))), none] [] := ih
    have hP : dP (xG X) S P wB (it (dy_sp1 S P (nI t)) i x) := hP.kd (kd_it (dy_sp1_k _ _ _) _ _)
    have hr : R S P nw T (it (dy_sp1 S P (nI t)) i x) (it (tw_los1 (nI t)) i z) := R_spoN hr (Nat.le_of_lt hi)
    have h20 : vp_in (nI i) 20 := vnI (Nat.lt_of_lt_of_le hi hr.nb) (by decide)
    have hbn : vp_in (nI i) P.nb := vnI hi (Nat.le_trans hr.nb (by decide))
    generalize (it (dy_sp1 S P (nI t)) (i) x) = y at hw ih hP hr
    refine v_iload_n hX dX3_spoil_2 rfl ?_
    refine v_aload_n hX dX3_spoil_3 rfl ?_
    refine dv_get hX dX3_spoil_4 hw 21 (by decide) q628 rfl ?_
    refine v_icmp_ge_f (tgt := 103) hX dX3_spoil_7 rfl (ge_s hP.2.2.2.1 hi (Nat.le_trans hP.2.2.2.2 (by decide))) ?_
    refine v_aload_n hX dX3_spoil_10 rfl ?_
    refine dv_get hX dX3_spoil_11 hw 0 (by decide) q591 rfl ?_
    refine v_iload_n hX dX3_spoil_14 rfl ?_
    refine dv_iald hX dX3_spoil_15 hw (by decide) rfl rfl (h20) ?_
    refine v_iconst hX dX3_spoil_16 ki2 ?_
    refine v_icmp_ne (tgt := 97) hX dX3_spoil_17 rfl (fun c_17 => ?_) (fun c_17 => ?_)
    · refine v_iinc (lv' := [_, _, _, _]) hX dX3_spoil_97 rfl ki1 rfl rfl ?_
      refine v_goto (tgt := 2) hX dX3_spoil_100 rfl ?_
      refine V.no (lv' := [_, _, _, _]) 3 rfl ?_
      exact V.at rfl (by rw [nI_1]) rfl (ih w (hw.to (by first | (rw [dy_sp1, dy_un, if_neg c_17]; done) | (rw [dy_sp1, dy_un, if_neg c_17]; rfl))))
    · refine v_aload_n hX dX3_spoil_20 rfl ?_
      refine dv_get hX dX3_spoil_21 hw 9 (by decide) q608 rfl ?_
      refine v_iload_n hX dX3_spoil_24 rfl ?_
      refine dv_iald hX dX3_spoil_25 hw (by decide) rfl rfl (h20) ?_
      refine v_aload_n hX dX3_spoil_26 rfl ?_
      refine v_iload_n hX dX3_spoil_27 rfl ?_
      refine dv_callR hX rfl dX3_spoil_28 q806 cf_X3_oldest hw (mX3_oldest hg hw hP _ hbn) rfl ⟨rfl, rfl⟩ ⟨Nat.le_of_ble_eq_true rfl, Nat.le_of_ble_eq_true rfl⟩ rfl (Nat.le_of_ble_eq_true rfl) ⟨Nat.le_of_ble_eq_true rfl, Nat.le_of_ble_eq_true rfl⟩ ?_
      refine v_icmp_gt (tgt := 37) hX dX3_spoil_31 rfl (fun c_31 => ?_) (fun c_31 => ?_)
      · refine v_aload_n hX dX3_spoil_37 rfl ?_
        refine dv_get hX dX3_spoil_38 hw 0 (by decide) q591 rfl ?_
        refine v_iload_n hX dX3_spoil_41 rfl ?_
        refine v_iconst hX dX3_spoil_42 ki5 ?_
        refine dv_iast hX dX3_spoil_43 hw (by decide) rfl rfl (h20) (fun w hw => ?_)
        refine v_aload_n hX dX3_spoil_44 rfl ?_
        refine dv_get hX dX3_spoil_45 hw 7 (by decide) q604 rfl ?_
        refine v_iload_n hX dX3_spoil_48 rfl ?_
        refine v_iload_n hX dX3_spoil_49 rfl ?_
        refine dv_iast hX dX3_spoil_50 hw (by decide) rfl rfl (h20) (fun w hw => ?_)
        refine v_aload_n hX dX3_spoil_51 rfl ?_
        refine dv_get hX dX3_spoil_52 hw 11 (by decide) q612 rfl ?_
        refine v_iload_n hX dX3_spoil_55 rfl ?_
        refine v_iconst hX dX3_spoil_56 ki0 ?_
        refine dv_zast hX dX3_spoil_57 hw (by decide) rfl rfl (h20) (fun w hw => ?_)
        refine v_iconst hX dX3_spoil_58 ki0 ?_
        refine v_istore_n (lv' := [_, _, _, _]) hX dX3_spoil_59 (Nat.le_of_ble_eq_true rfl) rfl rfl ?_
        refine loop_up (4) (fun j => ∀ w, dW (xG X) G wB ((it (dy_un1 (nI i)) (j) (eU (eU (eU y 0 (nI i) 5) 7 (nI i) (nI t)) 11 (nI i) 0))) w → V X w 0 0 60 [some (.ref (G 19)), some (.int (nI t)), some (.int (nI i)), some (.int (nI (j)))] []) ?_ ?_ 0 (Nat.zero_le _) w hw
        · intro w hw
          refine v_iload_n hX dX3_spoil_60 rfl ?_
          refine v_iconst hX dX3_spoil_61 ki4 ?_
          refine v_icmp_ge_t (tgt := 97) hX dX3_spoil_62 rfl (by decide) ?_
          refine v_iinc (lv' := [_, _, _, _]) hX dX3_spoil_97 rfl ki1 rfl rfl ?_
          refine v_goto (tgt := 2) hX dX3_spoil_100 rfl ?_
          refine V.no (lv' := [_, _, _, _]) 3 rfl ?_
          exact V.at rfl (by rw [nI_1]) rfl (ih w (hw.to (by first | (rw [dy_sp1, dy_un, if_pos c_17, if_pos c_31]; done) | (rw [dy_sp1, dy_un, if_pos c_17, if_pos c_31]; rfl))))
        · intro j hj ih w hw
          have ih : ∀ w, dW (xG X) G wB (((dy_un1 (nI i)) j (it (dy_un1 (nI i)) (j) (eU (eU (eU y 0 (nI i) 5) 7 (nI i) (nI t)) 11 (nI i) 0)))) w → V X w 0 0 60 [some (.ref (G 19)), some (.int (nI t)), some (.int (nI i)), some (.int (nI (j + 1)))] [] := ih
          have hj4 : vp_in (nI j) 4 := vnI hj (by decide)
          generalize (it (dy_un1 (nI i)) (j) (eU (eU (eU y 0 (nI i) 5) 7 (nI i) (nI t)) 11 (nI i) 0)) = y2 at hw ih
          refine v_iload_n hX dX3_spoil_60 rfl ?_
          refine v_iconst hX dX3_spoil_61 ki4 ?_
          refine v_icmp_ge_f (tgt := 97) hX dX3_spoil_62 rfl (ge_s (N := 4) rfl hj (by decide)) ?_
          refine v_aload_n hX dX3_spoil_65 rfl ?_
          refine dv_get hX dX3_spoil_66 hw 16 (by decide) q618 rfl ?_
          refine v_iload_n hX dX3_spoil_69 rfl ?_
          refine v_aload_n hX dX3_spoil_70 rfl ?_
          refine dv_get hX dX3_spoil_71 hw 16 (by decide) q618 rfl ?_
          refine v_iload_n hX dX3_spoil_74 rfl ?_
          refine dv_iald hX dX3_spoil_75 hw (by decide) rfl rfl (hj4) ?_
          refine v_iload_n hX dX3_spoil_76 rfl ?_
          refine v_icmp_ne (tgt := 84) hX dX3_spoil_77 rfl (fun c_77 => ?_) (fun c_77 => ?_)
          · refine v_aload_n hX dX3_spoil_84 rfl ?_
            refine dv_get hX dX3_spoil_85 hw 16 (by decide) q618 rfl ?_
            refine v_iload_n hX dX3_spoil_88 rfl ?_
            refine dv_iald hX dX3_spoil_89 hw (by decide) rfl rfl (hj4) ?_
            refine dv_iast hX dX3_spoil_90 hw (by decide) rfl rfl (hj4) (fun w hw => ?_)
            refine v_iinc (lv' := [_, _, _, _]) hX dX3_spoil_91 rfl ki1 rfl rfl ?_
            refine v_goto (tgt := 60) hX dX3_spoil_94 rfl ?_
            exact V.at rfl (by rw [nI_1]) rfl (ih w (hw.to (by first | (rw [dy_un1, if_neg c_77]; done) | (rw [dy_un1, if_neg c_77]; rfl))))
          · refine v_iconst hX dX3_spoil_80 kim1 ?_
            refine v_goto (tgt := 90) hX dX3_spoil_81 rfl ?_
            refine dv_iast hX dX3_spoil_90 hw (by decide) rfl rfl (hj4) (fun w hw => ?_)
            refine v_iinc (lv' := [_, _, _, _]) hX dX3_spoil_91 rfl ki1 rfl rfl ?_
            refine v_goto (tgt := 60) hX dX3_spoil_94 rfl ?_
            exact V.at rfl (by rw [nI_1]) rfl (ih w (hw.to (by first | (rw [dy_un1, if_pos c_77]; done) | (rw [dy_un1, if_pos c_77]; rfl))))
      · refine v_goto (tgt := 97) hX dX3_spoil_34 rfl ?_
        refine v_iinc (lv' := [_, _, _, _]) hX dX3_spoil_97 rfl ki1 rfl rfl ?_
        refine v_goto (tgt := 2) hX dX3_spoil_100 rfl ?_
        refine V.no (lv' := [_, _, _, _]) 3 rfl ?_
        exact V.at rfl (by rw [nI_1]) rfl (ih w (hw.to (by first | (rw [dy_sp1, dy_un, if_pos c_17, if_neg c_31]; done) | (rw [dy_sp1, dy_un, if_pos c_17, if_neg c_31]; rfl))))
theorem R_bsto {S : Sh} {P : Pl} {nw T i n : Nat} {x : DS} {y : TS} (h : R S P nw T x y) (hT : T ≤ 1440) (hi : i < 4) (hn : n ≤ P.nb) : it (dy_bst1 S P x (nI i)) n (-1) = -1 ∨ vp_in (it (dy_bst1 S P x (nI i)) n (-1)) P.nb := by
  have h20 := h.nb
  obtain ⟨h1, h2⟩ := R_bst h hT hi n hn
  rw [h1]
  rcases h2 with q | ⟨k, k1, k2, -⟩
  · exact Or.inl q
  · rw [k2]; exact Or.inr (vnI (by omega) (by omega))
theorem cf_X3_reserve : CF RX3 yX3_reserve cX3_reserve 5 none 0 := ⟨q816, qs8, q144, q817, by decide +kernel⟩
theorem mX3_reserve {Γ : Gm} {l : Launch} (hg : gC Γ) {G : Nat → Nat} {wB : Wd} {x : DS} {w : Wd} (hw : dW Γ G wB x w) {S : Sh} {P : Pl} (hP : dP Γ S P wB x) {nw T : Nat} {z : TS} (hr : R S P nw T x z) (hT : T ≤ 1440) (ha : wB (x.2.1 23) = some (true, .inr (pC P.po, []))) : M0 Γ l yX3_reserve (ws_ yX3_reserve cX3_reserve 5 none) (rl 8 0 0) 0 0 [.ref (G 19)] w (fun r9 w9 => r9 = none ∧ dW Γ G wB (dy_res S P x) w9) := by
  refine M0.of (lv := [some (.ref (G 19)), none, none, none, none]) (by decide) (Nat.le_of_ble_eq_true rfl) 4 rfl rfl ?_
  intro X hX hR hl hG hnm
  subst hl; subst hG
  refine v_iconst hX dX3_reserve_0 ki0 ?_
  refine v_istore_n (lv' := [_, _, _, _, _]) hX dX3_reserve_1 (Nat.le_of_ble_eq_true rfl) rfl rfl ?_
  refine V.no (lv' := [_, _, _, _, _]) 2 rfl ?_
  refine V.no (lv' := [_, _, _, _, _]) 3 rfl ?_
  refine V.no (lv' := [_, _, _, _, _]) 4 rfl ?_
  refine loop_up (qd P) (fun i => ∀ w, dW (xG X) G wB ((it (dy_rs1 S P) (i) x)) w → V X w 0 0 2 [some (.ref (G 19)), some (.int (nI (i))), none, none, none] []) ?_ ?_ 0 (Nat.zero_le _) w hw
  · intro w hw
    have hP : dP (xG X) S P wB (it (dy_rs1 S P) (qd P) x) := hP.kd (kd_it (dy_rs1_k _ _) _ _)
    refine v_iload_n hX dX3_reserve_2 rfl ?_
    refine v_aload_n hX dX3_reserve_3 rfl ?_
    refine v_iconst hX dX3_reserve_4 ki1 ?_
    refine dv_callR hX rfl dX3_reserve_5 q774 cf_X3_setting hw (mX3_setting hg hw hP _ (vin (by decide))) rfl ⟨rfl, rfl⟩ ⟨Nat.le_of_ble_eq_true rfl, Nat.le_of_ble_eq_true rfl⟩ rfl (Nat.le_of_ble_eq_true rfl) ⟨Nat.le_of_ble_eq_true rfl, Nat.le_of_ble_eq_true rfl⟩ ?_
    refine v_icmp_ge_t (tgt := 120) hX dX3_reserve_8 rfl (ge_x (show pS P 1 = nI (qd P) from hP.2.2.1.2.2.1.1) rfl) ?_
    exact v_vret hX dX3_reserve_120 hR (Nat.le_of_ble_eq_true rfl) (Nat.le_of_ble_eq_true rfl) (⟨rfl, hw⟩)
  · intro i hi ih w hw
    have ih : ∀ w, dW (xG X) G wB (((dy_rs1 S P) i (it (dy_rs1 S P) (i) x))) w → V X w 0 0 2 [some (.ref (G 19)), some (.int (nI (i + 1))), none, none, none] [] := ih
    have hP : dP (xG X) S P wB (it (dy_rs1 S P) i x) := hP.kd (kd_it (dy_rs1_k _ _) _ _)
    have hr : R S P nw T (it (dy_rs1 S P) i x) (it (tw_res1) i z) := R_resN hr hT (Nat.le_of_lt hi)
    have ha : wB ((it (dy_rs1 S P) i x).2.1 23) = some (true, .inr (pC P.po, [])) := by rw [kD_1 (kd_it (dy_rs1_k _ _) _ _)]; exact ha
    have ht4 := hr.tk (Nat.lt_of_lt_of_le hi hr.qd)
    have h4 : vp_in (nI i) 4 := vnI (Nat.lt_of_lt_of_le hi hr.qd) (by decide)
    generalize (it (dy_rs1 S P) (i) x) = y at hw ih hP hr ht4 ha
    refine v_iload_n hX dX3_reserve_2 rfl ?_
    refine v_aload_n hX dX3_reserve_3 rfl ?_
    refine v_iconst hX dX3_reserve_4 ki1 ?_
    refine dv_callR hX rfl dX3_reserve_5 q774 cf_X3_setting hw (mX3_setting hg hw hP _ (vin (by decide))) rfl ⟨rfl, rfl⟩ ⟨Nat.le_of_ble_eq_true rfl, Nat.le_of_ble_eq_true rfl⟩ rfl (Nat.le_of_ble_eq_true rfl) ⟨Nat.le_of_ble_eq_true rfl, Nat.le_of_ble_eq_true rfl⟩ ?_
    refine v_icmp_ge_f (tgt := 120) hX dX3_reserve_8 rfl (ge_s (show pS P 1 = nI (qd P) from hP.2.2.1.2.2.1.1) hi (Nat.le_trans hP.2.2.1.2.2.1.2.2 (by decide))) ?_
    refine v_aload_n hX dX3_reserve_11 rfl ?_
    refine dv_get hX dX3_reserve_12 hw 16 (by decide) q618 rfl ?_
    refine v_iload_n hX dX3_reserve_15 rfl ?_
    refine dv_iald hX dX3_reserve_16 hw (by decide) rfl rfl (h4) ?_
    refine v_iconst hX dX3_reserve_17 kim1 ?_
    refine v_icmp_eq (tgt := 24) hX dX3_reserve_18 rfl (fun c_18 => ?_) (fun c_18 => ?_)
    · refine v_iconst hX dX3_reserve_24 kim1 ?_
      refine v_istore_n (lv' := [_, _, _, _, _]) hX dX3_reserve_25 (Nat.le_of_ble_eq_true rfl) rfl rfl ?_
      refine v_iconst hX dX3_reserve_26 ki0 ?_
      refine v_istore_n (lv' := [_, _, _, _, _]) hX dX3_reserve_27 (Nat.le_of_ble_eq_true rfl) rfl rfl ?_
      refine V.at rfl (lv2 := [some (.ref (G 19)), some (.int (nI i)), some (.int (it (dy_bst1 S P y (nI i)) (0) (-1))), some (.int (nI 0)), none]) rfl rfl ?_
      refine V.no (lv' := [_, _, _, _, _]) 4 rfl ?_
      refine loop_up (P.nb) (fun j => V X w 0 0 28 [some (.ref (G 19)), some (.int (nI i)), some (.int (it (dy_bst1 S P y (nI i)) (j) (-1))), some (.int (nI (j))), none] []) ?_ ?_ 0 (Nat.zero_le _)
      · skip
        refine v_iload_n hX dX3_reserve_28 rfl ?_
        refine v_aload_n hX dX3_reserve_29 rfl ?_
        refine dv_get hX dX3_reserve_30 hw 21 (by decide) q628 rfl ?_
        refine v_icmp_ge_t (tgt := 107) hX dX3_reserve_33 rfl (ge_x hP.2.2.2.1 rfl) ?_
        refine v_aload_n hX dX3_reserve_107 rfl ?_
        refine dv_get hX dX3_reserve_108 hw 16 (by decide) q618 rfl ?_
        refine v_iload_n hX dX3_reserve_111 rfl ?_
        refine v_iload_n hX dX3_reserve_112 rfl ?_
        refine dv_iast hX dX3_reserve_113 hw (by decide) rfl rfl (h4) (fun w hw => ?_)
        refine v_iinc (lv' := [_, _, _, _, _]) hX dX3_reserve_114 rfl ki1 rfl rfl ?_
        refine v_goto (tgt := 2) hX dX3_reserve_117 rfl ?_
        refine V.no (lv' := [_, _, _, _, _]) 2 rfl ?_
        refine V.no (lv' := [_, _, _, _, _]) 3 rfl ?_
        refine V.no (lv' := [_, _, _, _, _]) 4 rfl ?_
        exact V.at rfl (by rw [nI_1]) rfl (ih w (hw.to (by rw [dy_rs1, if_pos c_18, dy_bst])))
      · intro j hj ih
        have ih : V X w 0 0 28 [some (.ref (G 19)), some (.int (nI i)), some (.int (it (dy_bst1 S P y (nI i)) (j + 1) (-1))), some (.int (nI (j + 1))), none] [] := ih
        have hj20 : vp_in (nI j) 20 := vnI (Nat.lt_of_lt_of_le hj hr.nb) (by decide)
        have hjn : vp_in (nI j) P.nb := vnI hj (Nat.le_trans hr.nb (by decide))
        have hbo : it (dy_bst1 S P y (nI i)) j (-1) = -1 ∨ vp_in (it (dy_bst1 S P y (nI i)) j (-1)) P.nb := R_bsto hr hT (Nat.lt_of_lt_of_le hi hr.qd) (Nat.le_of_lt hj)
        have ih : V X w 0 0 28 [some (.ref (G 19)), some (.int (nI i)), some (.int (dy_bst1 S P y (nI i) j (it (dy_bst1 S P y (nI i)) (j) (-1)))), some (.int (nI (j + 1))), none] [] := ih
        generalize it (dy_bst1 S P y (nI i)) (j) (-1) = best at ih hbo
        refine v_iload_n hX dX3_reserve_28 rfl ?_
        refine v_aload_n hX dX3_reserve_29 rfl ?_
        refine dv_get hX dX3_reserve_30 hw 21 (by decide) q628 rfl ?_
        refine v_icmp_ge_f (tgt := 107) hX dX3_reserve_33 rfl (ge_s hP.2.2.2.1 hj (Nat.le_trans hP.2.2.2.2 (by decide))) ?_
        refine v_aload_n hX dX3_reserve_36 rfl ?_
        refine dv_get hX dX3_reserve_37 hw 0 (by decide) q591 rfl ?_
        refine v_iload_n hX dX3_reserve_40 rfl ?_
        refine dv_iald hX dX3_reserve_41 hw (by decide) rfl rfl (hj20) ?_
        refine v_iconst hX dX3_reserve_42 ki2 ?_
        refine v_icmp_ne (tgt := 67) hX dX3_reserve_43 rfl (fun c_43 => ?_) (fun c_43 => ?_)
        · refine v_iconst hX dX3_reserve_67 ki0 ?_
          refine v_istore (lv' := [_, _, _, _, _]) hX dX3_reserve_68 (Nat.le_of_ble_eq_true rfl) rfl rfl ?_
          refine v_iload hX dX3_reserve_70 rfl ?_
          refine v_if_eq_t (tgt := 99) hX dX3_reserve_72 rfl (rfl) ?_
          refine v_iload_n hX dX3_reserve_99 rfl ?_
          refine v_istore_n (lv' := [_, _, _, _, _]) hX dX3_reserve_100 (Nat.le_of_ble_eq_true rfl) rfl rfl ?_
          refine v_iinc (lv' := [_, _, _, _, _]) hX dX3_reserve_101 rfl ki1 rfl rfl ?_
          refine v_goto (tgt := 28) hX dX3_reserve_104 rfl ?_
          refine V.no (lv' := [_, _, _, _, _]) 4 rfl ?_
          exact V.at rfl (by rw [nI_1, dy_bst1, if_neg (fun h => c_43 h.1)]) rfl ih
        · refine v_aload_n hX dX3_reserve_46 rfl ?_
          refine v_iload_n hX dX3_reserve_47 rfl ?_
          refine dv_callR hX rfl dX3_reserve_48 q818 cf_X3_isReserved hw (mX3_isReserved hg hw _) rfl ⟨rfl, rfl⟩ ⟨Nat.le_of_ble_eq_true rfl, Nat.le_of_ble_eq_true rfl⟩ rfl (Nat.le_of_ble_eq_true rfl) ⟨Nat.le_of_ble_eq_true rfl, Nat.le_of_ble_eq_true rfl⟩ ?_
          refine v_ifb_ne (tgt := 67) hX dX3_reserve_51 rfl (fun c_51 => ?_) (fun c_51 => ?_)
          · refine v_iconst hX dX3_reserve_67 ki0 ?_
            refine v_istore (lv' := [_, _, _, _, _]) hX dX3_reserve_68 (Nat.le_of_ble_eq_true rfl) rfl rfl ?_
            refine v_iload hX dX3_reserve_70 rfl ?_
            refine v_if_eq_t (tgt := 99) hX dX3_reserve_72 rfl (rfl) ?_
            refine v_iload_n hX dX3_reserve_99 rfl ?_
            refine v_istore_n (lv' := [_, _, _, _, _]) hX dX3_reserve_100 (Nat.le_of_ble_eq_true rfl) rfl rfl ?_
            refine v_iinc (lv' := [_, _, _, _, _]) hX dX3_reserve_101 rfl ki1 rfl rfl ?_
            refine v_goto (tgt := 28) hX dX3_reserve_104 rfl ?_
            refine V.no (lv' := [_, _, _, _, _]) 4 rfl ?_
            exact V.at rfl (by rw [nI_1, dy_bst1, if_neg (fun h => h.2.1 c_51)]) rfl ih
          · refine v_aload_n hX dX3_reserve_54 rfl ?_
            refine v_iload_n hX dX3_reserve_55 rfl ?_
            refine v_iload_n hX dX3_reserve_56 rfl ?_
            refine dv_callR hX rfl dX3_reserve_57 q822 cf_X3_canWait hw (mX3_canWait hg hw hP _ _ h4 hjn) rfl ⟨rfl, rfl⟩ ⟨Nat.le_of_ble_eq_true rfl, Nat.le_of_ble_eq_true rfl⟩ rfl (Nat.le_of_ble_eq_true rfl) ⟨Nat.le_of_ble_eq_true rfl, Nat.le_of_ble_eq_true rfl⟩ ?_
            refine v_ifb_eq (tgt := 67) hX dX3_reserve_60 rfl (fun c_60 => ?_) (fun c_60 => ?_)
            · refine v_iconst hX dX3_reserve_67 ki0 ?_
              refine v_istore (lv' := [_, _, _, _, _]) hX dX3_reserve_68 (Nat.le_of_ble_eq_true rfl) rfl rfl ?_
              refine v_iload hX dX3_reserve_70 rfl ?_
              refine v_if_eq_t (tgt := 99) hX dX3_reserve_72 rfl (rfl) ?_
              refine v_iload_n hX dX3_reserve_99 rfl ?_
              refine v_istore_n (lv' := [_, _, _, _, _]) hX dX3_reserve_100 (Nat.le_of_ble_eq_true rfl) rfl rfl ?_
              refine v_iinc (lv' := [_, _, _, _, _]) hX dX3_reserve_101 rfl ki1 rfl rfl ?_
              refine v_goto (tgt := 28) hX dX3_reserve_104 rfl ?_
              refine V.no (lv' := [_, _, _, _, _]) 4 rfl ?_
              exact V.at rfl (by rw [nI_1, dy_bst1, if_neg (fun h => c_60 h.2.2)]) rfl ih
            · refine v_iconst hX dX3_reserve_63 ki1 ?_
              refine v_goto (tgt := 68) hX dX3_reserve_64 rfl ?_
              refine v_istore (lv' := [_, _, _, _, _]) hX dX3_reserve_68 (Nat.le_of_ble_eq_true rfl) rfl rfl ?_
              refine v_iload hX dX3_reserve_70 rfl ?_
              refine v_if_eq_f (tgt := 99) hX dX3_reserve_72 rfl (by decide) ?_
              refine v_iload_n hX dX3_reserve_75 rfl ?_
              refine v_iconst hX dX3_reserve_76 kim1 ?_
              refine v_icmp_eq (tgt := 95) hX dX3_reserve_77 rfl (fun c_77 => ?_) (fun c_77 => ?_)
              · refine v_iload_n hX dX3_reserve_95 rfl ?_
                refine v_goto (tgt := 100) hX dX3_reserve_96 rfl ?_
                refine v_istore_n (lv' := [_, _, _, _, _]) hX dX3_reserve_100 (Nat.le_of_ble_eq_true rfl) rfl rfl ?_
                refine v_iinc (lv' := [_, _, _, _, _]) hX dX3_reserve_101 rfl ki1 rfl rfl ?_
                refine v_goto (tgt := 28) hX dX3_reserve_104 rfl ?_
                refine V.no (lv' := [_, _, _, _, _]) 4 rfl ?_
                exact V.at rfl (by rw [nI_1, dy_bst1, if_pos ⟨c_43, c_51, c_60⟩, if_pos c_77]) rfl ih
              · refine v_aload_n hX dX3_reserve_80 rfl ?_
                refine dv_get hX dX3_reserve_81 hw 23 (by decide) q631 rfl ?_
                refine v_aload_n hX dX3_reserve_84 rfl ?_
                refine v_iload_n hX dX3_reserve_85 rfl ?_
                refine v_iload_n hX dX3_reserve_86 rfl ?_
                refine v_isB hX rfl dX3_reserve_87 hg q834 hw hP ha hjn (hbo.resolve_left c_77) ⟨Nat.le_of_ble_eq_true rfl, Nat.le_of_ble_eq_true rfl⟩ (Nat.le_of_ble_eq_true rfl) ⟨Nat.le_of_ble_eq_true rfl, Nat.le_of_ble_eq_true rfl⟩ ?_
                refine v_ifb_eq (tgt := 99) hX dX3_reserve_92 rfl (fun c_92 => ?_) (fun c_92 => ?_)
                · refine v_iload_n hX dX3_reserve_99 rfl ?_
                  refine v_istore_n (lv' := [_, _, _, _, _]) hX dX3_reserve_100 (Nat.le_of_ble_eq_true rfl) rfl rfl ?_
                  refine v_iinc (lv' := [_, _, _, _, _]) hX dX3_reserve_101 rfl ki1 rfl rfl ?_
                  refine v_goto (tgt := 28) hX dX3_reserve_104 rfl ?_
                  refine V.no (lv' := [_, _, _, _, _]) 4 rfl ?_
                  exact V.at rfl (by rw [nI_1, dy_bst1, if_pos ⟨c_43, c_51, c_60⟩, if_neg c_77, if_neg c_92]) rfl ih
                · refine v_iload_n hX dX3_reserve_95 rfl ?_
                  refine v_goto (tgt := 100) hX dX3_reserve_96 rfl ?_
                  refine v_istore_n (lv' := [_, _, _, _, _]) hX dX3_reserve_100 (Nat.le_of_ble_eq_true rfl) rfl rfl ?_
                  refine v_iinc (lv' := [_, _, _, _, _]) hX dX3_reserve_101 rfl ki1 rfl rfl ?_
                  refine v_goto (tgt := 28) hX dX3_reserve_104 rfl ?_
                  refine V.no (lv' := [_, _, _, _, _]) 4 rfl ?_
                  exact V.at rfl (by rw [nI_1, dy_bst1, if_pos ⟨c_43, c_51, c_60⟩, if_neg c_77, if_pos c_92]) rfl ih
    · refine v_goto (tgt := 114) hX dX3_reserve_21 rfl ?_
      refine v_iinc (lv' := [_, _, _, _, _]) hX dX3_reserve_114 rfl ki1 rfl rfl ?_
      refine v_goto (tgt := 2) hX dX3_reserve_117 rfl ?_
      refine V.no (lv' := [_, _, _, _, _]) 2 rfl ?_
      refine V.no (lv' := [_, _, _, _, _]) 3 rfl ?_
      refine V.no (lv' := [_, _, _, _, _]) 4 rfl ?_
      exact V.at rfl (by rw [nI_1]) rfl (ih w (hw.to (by rw [dy_rs1, if_neg c_18])))
theorem cf_X3_bake : CF RX3 yX3_bake cX3_bake 4 none 1 := ⟨q870, qs11, q144, q871, by decide +kernel⟩
theorem mX3_bake {Γ : Gm} {l : Launch} (hg : gC Γ) {G : Nat → Nat} {wB : Wd} {x : DS} {w : Wd} (hw : dW Γ G wB x w) {S : Sh} {P : Pl} (hP : dP Γ S P wB x) {nw T : Nat} {z : TS} (hr : R S P nw T x z) (hT : T ≤ 1440) {t : Nat} (ht : t < 1440) : M0 Γ l yX3_bake (ws_ yX3_bake cX3_bake 4 none) (rl 5 0 0) 0 0 [.ref (G 19), .int (nI t)] w (fun r9 w9 => r9 = none ∧ dW Γ G wB (dy_bak S P (nI t) x) w9) := by
  refine M0.of (lv := [some (.ref (G 19)), some (.int (nI t)), none, none]) (by decide) (Nat.le_of_ble_eq_true rfl) 2 rfl rfl ?_
  intro X hX hR hl hG hnm
  subst hl; subst hG
  refine v_iconst hX dX3_bake_0 ki0 ?_
  refine v_istore_n (lv' := [_, _, _, _]) hX dX3_bake_1 (Nat.le_of_ble_eq_true rfl) rfl rfl ?_
  refine V.no (lv' := [_, _, _, _]) 3 rfl ?_
  refine loop_up (qd P) (fun i => ∀ w, dW (xG X) G wB ((it (dy_ba1 S P (nI t)) (i) x)) w → V X w 0 0 2 [some (.ref (G 19)), some (.int (nI t)), some (.int (nI (i))), none] []) ?_ ?_ 0 (Nat.zero_le _) w hw
  · intro w hw
    have hP : dP (xG X) S P wB (it (dy_ba1 S P (nI t)) (qd P) x) := hP.kd (kd_it (dy_ba1_k _ _ _) _ _)
    refine v_iload_n hX dX3_bake_2 rfl ?_
    refine v_aload_n hX dX3_bake_3 rfl ?_
    refine v_iconst hX dX3_bake_4 ki1 ?_
    refine dv_callR hX rfl dX3_bake_5 q774 cf_X3_setting hw (mX3_setting hg hw hP _ (vin (by decide))) rfl ⟨rfl, rfl⟩ ⟨Nat.le_of_ble_eq_true rfl, Nat.le_of_ble_eq_true rfl⟩ rfl (Nat.le_of_ble_eq_true rfl) ⟨Nat.le_of_ble_eq_true rfl, Nat.le_of_ble_eq_true rfl⟩ ?_
    refine v_icmp_ge_t (tgt := 116) hX dX3_bake_8 rfl (ge_x (show pS P 1 = nI (qd P) from hP.2.2.1.2.2.1.1) rfl) ?_
    exact v_vret hX dX3_bake_116 hR (Nat.le_of_ble_eq_true rfl) (Nat.le_of_ble_eq_true rfl) (⟨rfl, hw⟩)
  · intro i hi ih w hw
    have ih : ∀ w, dW (xG X) G wB (((dy_ba1 S P (nI t)) i (it (dy_ba1 S P (nI t)) (i) x))) w → V X w 0 0 2 [some (.ref (G 19)), some (.int (nI t)), some (.int (nI (i + 1))), none] [] := ih
    have hP : dP (xG X) S P wB (it (dy_ba1 S P (nI t)) i x) := hP.kd (kd_it (dy_ba1_k _ _ _) _ _)
    have hr : R S P nw T (it (dy_ba1 S P (nI t)) i x) (it (tw_bak1 (nI t)) i z) := R_bakN hr hT ht (Nat.le_of_lt hi)
    have ht4 := hr.tk (Nat.lt_of_lt_of_le hi hr.qd)
    have h4 : vp_in (nI i) 4 := vnI (Nat.lt_of_lt_of_le hi hr.qd) (by decide)
    generalize (it (dy_ba1 S P (nI t)) (i) x) = y at hw ih hP hr ht4
    refine v_iload_n hX dX3_bake_2 rfl ?_
    refine v_aload_n hX dX3_bake_3 rfl ?_
    refine v_iconst hX dX3_bake_4 ki1 ?_
    refine dv_callR hX rfl dX3_bake_5 q774 cf_X3_setting hw (mX3_setting hg hw hP _ (vin (by decide))) rfl ⟨rfl, rfl⟩ ⟨Nat.le_of_ble_eq_true rfl, Nat.le_of_ble_eq_true rfl⟩ rfl (Nat.le_of_ble_eq_true rfl) ⟨Nat.le_of_ble_eq_true rfl, Nat.le_of_ble_eq_true rfl⟩ ?_
    refine v_icmp_ge_f (tgt := 116) hX dX3_bake_8 rfl (ge_s (show pS P 1 = nI (qd P) from hP.2.2.1.2.2.1.1) hi (Nat.le_trans hP.2.2.1.2.2.1.2.2 (by decide))) ?_
    refine v_aload_n hX dX3_bake_11 rfl ?_
    refine dv_get hX dX3_bake_12 hw 16 (by decide) q618 rfl ?_
    refine v_iload_n hX dX3_bake_15 rfl ?_
    refine dv_iald hX dX3_bake_16 hw (by decide) rfl rfl (h4) ?_
    refine v_istore_n (lv' := [_, _, _, _]) hX dX3_bake_17 (Nat.le_of_ble_eq_true rfl) rfl rfl ?_
    refine v_iload_n hX dX3_bake_18 rfl ?_
    refine v_iconst hX dX3_bake_19 kim1 ?_
    refine v_icmp_eq (tgt := 110) hX dX3_bake_20 rfl (fun c_20 => ?_) (fun c_20 => ?_)
    · refine v_iinc (lv' := [_, _, _, _]) hX dX3_bake_110 rfl ki1 rfl rfl ?_
      refine v_goto (tgt := 2) hX dX3_bake_113 rfl ?_
      refine V.no (lv' := [_, _, _, _]) 3 rfl ?_
      exact V.at rfl (by rw [nI_1]) rfl (ih w (hw.to (by first | (rw [dy_ba1, if_pos c_20]; done) | (rw [dy_ba1, if_pos c_20]; rfl))))
    · refine v_aload_n hX dX3_bake_23 rfl ?_
      refine dv_get hX dX3_bake_24 hw 0 (by decide) q591 rfl ?_
      refine v_iload_n hX dX3_bake_27 rfl ?_
      refine dv_iald hX dX3_bake_28 hw (by decide) rfl rfl ((vor ht4 hP.2.2.2.2).resolve_left c_20) ?_
      refine v_iconst hX dX3_bake_29 ki2 ?_
      refine v_icmp_ne (tgt := 110) hX dX3_bake_30 rfl (fun c_30 => ?_) (fun c_30 => ?_)
      · refine v_iinc (lv' := [_, _, _, _]) hX dX3_bake_110 rfl ki1 rfl rfl ?_
        refine v_goto (tgt := 2) hX dX3_bake_113 rfl ?_
        refine V.no (lv' := [_, _, _, _]) 3 rfl ?_
        exact V.at rfl (by rw [nI_1]) rfl (ih w (hw.to (by first | (rw [dy_ba1, if_neg c_20, if_neg c_30]; done) | (rw [dy_ba1, if_neg c_20, if_neg c_30]; rfl))))
      · refine v_aload_n hX dX3_bake_33 rfl ?_
        refine dv_get hX dX3_bake_34 hw 9 (by decide) q608 rfl ?_
        refine v_iload_n hX dX3_bake_37 rfl ?_
        refine dv_iald hX dX3_bake_38 hw (by decide) rfl rfl ((vor ht4 hP.2.2.2.2).resolve_left c_20) ?_
        refine v_aload_n hX dX3_bake_39 rfl ?_
        refine v_iload_n hX dX3_bake_40 rfl ?_
        refine dv_callR hX rfl dX3_bake_41 q810 cf_X3_ripe hw (mX3_ripe hg hw hP _ (ht4.resolve_left c_20)) rfl ⟨rfl, rfl⟩ ⟨Nat.le_of_ble_eq_true rfl, Nat.le_of_ble_eq_true rfl⟩ rfl (Nat.le_of_ble_eq_true rfl) ⟨Nat.le_of_ble_eq_true rfl, Nat.le_of_ble_eq_true rfl⟩ ?_
        refine v_icmp_lt (tgt := 110) hX dX3_bake_44 rfl (fun c_44 => ?_) (fun c_44 => ?_)
        · refine v_iinc (lv' := [_, _, _, _]) hX dX3_bake_110 rfl ki1 rfl rfl ?_
          refine v_goto (tgt := 2) hX dX3_bake_113 rfl ?_
          refine V.no (lv' := [_, _, _, _]) 3 rfl ?_
          exact V.at rfl (by rw [nI_1]) rfl (ih w (hw.to (by first | (rw [dy_ba1, if_neg c_20, if_pos c_30, if_pos c_44]; done) | (rw [dy_ba1, if_neg c_20, if_pos c_30, if_pos c_44]; rfl))))
        · refine v_aload_n hX dX3_bake_47 rfl ?_
          refine dv_get hX dX3_bake_48 hw 17 (by decide) q620 rfl ?_
          refine v_iload_n hX dX3_bake_51 rfl ?_
          refine dv_iald hX dX3_bake_52 hw (by decide) rfl rfl (h4) ?_
          refine v_aload_n hX dX3_bake_53 rfl ?_
          refine dv_get hX dX3_bake_54 hw 22 (by decide) q629 rfl ?_
          refine v_iload_n hX dX3_bake_57 rfl ?_
          refine v_cVe hX rfl dX3_bake_58 q782 c2_X2_productOf q784 rfl cl_2 (hP.2.1.day hw).1 (m3_productOf hg (hP.1.day hw) (hP.2.1.day hw) hP.2.2.1 _ (ht4.resolve_left c_20)) rfl ⟨rfl, rfl⟩ ⟨Nat.le_of_ble_eq_true rfl, Nat.le_of_ble_eq_true rfl⟩ rfl (Nat.le_of_ble_eq_true rfl) ⟨Nat.le_of_ble_eq_true rfl, Nat.le_of_ble_eq_true rfl⟩ ?_
          refine v_getM hX dX3_bake_61 hg in_X11 cl_9 6 (by decide) q1376 (fun _ h => h) (plX_at (hP.1.day hw) hP.2.2.1 (ht4.resolve_left c_20)) rfl ?_
          refine v_icmp_eq (tgt := 70) hX dX3_bake_64 rfl (fun c_64 => ?_) (fun c_64 => ?_)
          · refine v_aload_n hX dX3_bake_70 rfl ?_
            refine dv_get hX dX3_bake_71 hw 0 (by decide) q591 rfl ?_
            refine v_iload_n hX dX3_bake_74 rfl ?_
            refine v_iconst hX dX3_bake_75 ki3 ?_
            refine dv_iast hX dX3_bake_76 hw (by decide) rfl rfl ((vor ht4 hP.2.2.2.2).resolve_left c_20) (fun w hw => ?_)
            refine v_aload_n hX dX3_bake_77 rfl ?_
            refine dv_get hX dX3_bake_78 hw 4 (by decide) q598 rfl ?_
            refine v_iload_n hX dX3_bake_81 rfl ?_
            refine v_iload_n hX dX3_bake_82 rfl ?_
            refine dv_iast hX dX3_bake_83 hw (by decide) rfl rfl ((vor ht4 hP.2.2.2.2).resolve_left c_20) (fun w hw => ?_)
            refine v_aload_n hX dX3_bake_84 rfl ?_
            refine dv_get hX dX3_bake_85 hw 5 (by decide) q600 rfl ?_
            refine v_iload_n hX dX3_bake_88 rfl ?_
            refine v_iload_n hX dX3_bake_89 rfl ?_
            refine dv_iast hX dX3_bake_90 hw (by decide) rfl rfl ((vor ht4 hP.2.2.2.2).resolve_left c_20) (fun w hw => ?_)
            refine v_aload_n hX dX3_bake_91 rfl ?_
            refine dv_get hX dX3_bake_92 hw 10 (by decide) q610 rfl ?_
            refine v_iload_n hX dX3_bake_95 rfl ?_
            refine v_aload_n hX dX3_bake_96 rfl ?_
            refine dv_get hX dX3_bake_97 hw 9 (by decide) q608 rfl ?_
            refine v_iload_n hX dX3_bake_100 rfl ?_
            refine dv_iald hX dX3_bake_101 hw (by decide) rfl rfl ((vor ht4 hP.2.2.2.2).resolve_left c_20) ?_
            refine dv_iast hX dX3_bake_102 hw (by decide) rfl rfl ((vor ht4 hP.2.2.2.2).resolve_left c_20) (fun w hw => ?_)
            refine v_aload_n hX dX3_bake_103 rfl ?_
            refine dv_get hX dX3_bake_104 hw 11 (by decide) q612 rfl ?_
            refine v_iload_n hX dX3_bake_107 rfl ?_
            refine v_iconst hX dX3_bake_108 ki0 ?_
            refine dv_zast hX dX3_bake_109 hw (by decide) rfl rfl ((vor ht4 hP.2.2.2.2).resolve_left c_20) (fun w hw => ?_)
            refine v_iinc (lv' := [_, _, _, _]) hX dX3_bake_110 rfl ki1 rfl rfl ?_
            refine v_goto (tgt := 2) hX dX3_bake_113 rfl ?_
            refine V.no (lv' := [_, _, _, _]) 3 rfl ?_
            exact V.at rfl (by rw [nI_1]) rfl (ih w (hw.to (by first | (rw [dy_ba1, if_neg c_20, if_pos c_30, if_neg c_44, if_pos c_64]; done) | (rw [dy_ba1, if_neg c_20, if_pos c_30, if_neg c_44, if_pos c_64]; rfl))))
          · refine v_goto (tgt := 110) hX dX3_bake_67 rfl ?_
            refine v_iinc (lv' := [_, _, _, _]) hX dX3_bake_110 rfl ki1 rfl rfl ?_
            refine v_goto (tgt := 2) hX dX3_bake_113 rfl ?_
            refine V.no (lv' := [_, _, _, _]) 3 rfl ?_
            exact V.at rfl (by rw [nI_1]) rfl (ih w (hw.to (by first | (rw [dy_ba1, if_neg c_20, if_pos c_30, if_neg c_44, if_neg c_64]; done) | (rw [dy_ba1, if_neg c_20, if_pos c_30, if_neg c_44, if_neg c_64]; rfl))))
theorem cf_X3_shelve : CF RX3 yX3_shelve cX3_shelve 3 none 0 := ⟨q874, qs12, q144, q875, by decide +kernel⟩
theorem mX3_shelve {Γ : Gm} {l : Launch} (hg : gC Γ) {G : Nat → Nat} {wB : Wd} {x : DS} {w : Wd} (hw : dW Γ G wB x w) {S : Sh} {P : Pl} (hP : dP Γ S P wB x) {nw T : Nat} {z : TS} (hr : R S P nw T x z) : M0 Γ l yX3_shelve (ws_ yX3_shelve cX3_shelve 3 none) (rl 5 0 0) 0 0 [.ref (G 19)] w (fun r9 w9 => r9 = none ∧ dW Γ G wB (dy_she S P x) w9) := by
  refine M0.of (lv := [some (.ref (G 19)), none, none]) (by decide) (Nat.le_of_ble_eq_true rfl) 2 rfl rfl ?_
  intro X hX hR hl hG hnm
  subst hl; subst hG
  refine v_aload_n hX dX3_shelve_0 rfl ?_
  refine v_iconst hX dX3_shelve_1 ki2 ?_
  refine dv_callR hX rfl dX3_shelve_2 q774 cf_X3_setting hw (mX3_setting hg hw hP _ (vin (by decide))) rfl ⟨rfl, rfl⟩ ⟨Nat.le_of_ble_eq_true rfl, Nat.le_of_ble_eq_true rfl⟩ rfl (Nat.le_of_ble_eq_true rfl) ⟨Nat.le_of_ble_eq_true rfl, Nat.le_of_ble_eq_true rfl⟩ ?_
  refine v_aload_n hX dX3_shelve_5 rfl ?_
  refine dv_callR hX rfl dX3_shelve_6 q876 cf_X3_shelved hw (mX3_shelved hg hw hP) rfl ⟨rfl, rfl⟩ ⟨Nat.le_of_ble_eq_true rfl, Nat.le_of_ble_eq_true rfl⟩ rfl (Nat.le_of_ble_eq_true rfl) ⟨Nat.le_of_ble_eq_true rfl, Nat.le_of_ble_eq_true rfl⟩ ?_
  refine v_isub hX dX3_shelve_9 ?_
  refine v_istore_n (lv' := [_, _, _]) hX dX3_shelve_10 (Nat.le_of_ble_eq_true rfl) rfl rfl ?_
  refine v_iconst hX dX3_shelve_11 ki0 ?_
  refine v_istore_n (lv' := [_, _, _]) hX dX3_shelve_12 (Nat.le_of_ble_eq_true rfl) rfl rfl ?_
  refine loop_up (P.nb) (fun i => ∀ w, dW (xG X) G wB ((it (dy_sh1 S P) (i) (x, pS P 2 - ct (fun b => ¬ eG x 11 (nI b) = 0) P.nb)).1) w → V X w 0 0 13 [some (.ref (G 19)), some (.int (it (dy_sh1 S P) (i) (x, pS P 2 - ct (fun b => ¬ eG x 11 (nI b) = 0) P.nb)).2), some (.int (nI (i)))] []) ?_ ?_ 0 (Nat.zero_le _) w hw
  · intro w hw
    have hP : dP (xG X) S P wB (it (dy_sh1 S P) P.nb (x, pS P 2 - ct (fun b => ¬ eG x 11 (nI b) = 0) P.nb)).1 := hP.kd (it_keep (fun s : DS × Int32 => kD s.1) (dy_sh1_k S P) _ _)
    refine v_iload_n hX dX3_shelve_13 rfl ?_
    refine v_aload_n hX dX3_shelve_14 rfl ?_
    refine dv_get hX dX3_shelve_15 hw 21 (by decide) q628 rfl ?_
    refine v_icmp_ge_t (tgt := 74) hX dX3_shelve_18 rfl (ge_x hP.2.2.2.1 rfl) ?_
    exact v_vret hX dX3_shelve_74 hR (Nat.le_of_ble_eq_true rfl) (Nat.le_of_ble_eq_true rfl) (⟨rfl, hw⟩)
  · intro i hi ih w hw
    have ih : ∀ w, dW (xG X) G wB (((dy_sh1 S P) i (it (dy_sh1 S P) (i) (x, pS P 2 - ct (fun b => ¬ eG x 11 (nI b) = 0) P.nb))).1) w → V X w 0 0 13 [some (.ref (G 19)), some (.int ((dy_sh1 S P) i (it (dy_sh1 S P) (i) (x, pS P 2 - ct (fun b => ¬ eG x 11 (nI b) = 0) P.nb))).2), some (.int (nI (i + 1)))] [] := ih
    have hP : dP (xG X) S P wB (it (dy_sh1 S P) i (x, pS P 2 - ct (fun b => ¬ eG x 11 (nI b) = 0) P.nb)).1 := hP.kd (it_keep (fun s : DS × Int32 => kD s.1) (dy_sh1_k S P) _ _)
    have hst : (it (dy_sh1 S P) i (x, pS P 2 - ct (fun b => ¬ eG x 11 (nI b) = 0) P.nb)).2 ≤ 0 → it (dy_sh1 S P) P.nb (x, pS P 2 - ct (fun b => ¬ eG x 11 (nI b) = 0) P.nb) = it (dy_sh1 S P) i (x, pS P 2 - ct (fun b => ¬ eG x 11 (nI b) = 0) P.nb) := fun q => it_stuck (Nat.le_of_lt hi) (fun j => if_pos q)
    have h20 : vp_in (nI i) 20 := vnI (Nat.lt_of_lt_of_le hi hr.nb) (by decide)
    have hbn : vp_in (nI i) P.nb := vnI hi (Nat.le_trans hr.nb (by decide))
    generalize (it (dy_sh1 S P) (i) (x, pS P 2 - ct (fun b => ¬ eG x 11 (nI b) = 0) P.nb)) = y at hw ih hP hst
    refine v_iload_n hX dX3_shelve_13 rfl ?_
    refine v_aload_n hX dX3_shelve_14 rfl ?_
    refine dv_get hX dX3_shelve_15 hw 21 (by decide) q628 rfl ?_
    refine v_icmp_ge_f (tgt := 74) hX dX3_shelve_18 rfl (ge_s hP.2.2.2.1 hi (Nat.le_trans hP.2.2.2.2 (by decide))) ?_
    refine v_iload_n hX dX3_shelve_21 rfl ?_
    refine v_if_le (tgt := 74) hX dX3_shelve_22 rfl (fun c_22 => ?_) (fun c_22 => ?_)
    · exact v_vret hX dX3_shelve_74 hR (Nat.le_of_ble_eq_true rfl) (Nat.le_of_ble_eq_true rfl) (⟨rfl, hw.to (congrArg Prod.fst (hst c_22)).symm⟩)
    · refine v_aload_n hX dX3_shelve_25 rfl ?_
      refine dv_get hX dX3_shelve_26 hw 0 (by decide) q591 rfl ?_
      refine v_iload_n hX dX3_shelve_29 rfl ?_
      refine dv_iald hX dX3_shelve_30 hw (by decide) rfl rfl (h20) ?_
      refine v_iconst hX dX3_shelve_31 ki2 ?_
      refine v_icmp_ne (tgt := 68) hX dX3_shelve_32 rfl (fun c_32 => ?_) (fun c_32 => ?_)
      · refine v_iinc (lv' := [_, _, _]) hX dX3_shelve_68 rfl ki1 rfl rfl ?_
        refine v_goto (tgt := 13) hX dX3_shelve_71 rfl ?_
        exact V.at rfl (by rw [nI_1, dy_sh1, if_neg c_22, if_neg c_32]) rfl (ih w (hw.to (by first | (rw [dy_sh1, if_neg c_22, if_neg c_32]; done) | (rw [dy_sh1, if_neg c_22, if_neg c_32]; rfl))))
      · refine v_aload_n hX dX3_shelve_35 rfl ?_
        refine dv_get hX dX3_shelve_36 hw 11 (by decide) q612 rfl ?_
        refine v_iload_n hX dX3_shelve_39 rfl ?_
        refine dv_zald hX dX3_shelve_40 hw (by decide) rfl rfl (h20) ?_
        refine v_if_ne (tgt := 68) hX dX3_shelve_41 rfl (fun c_41 => ?_) (fun c_41 => ?_)
        · refine v_iinc (lv' := [_, _, _]) hX dX3_shelve_68 rfl ki1 rfl rfl ?_
          refine v_goto (tgt := 13) hX dX3_shelve_71 rfl ?_
          exact V.at rfl (by rw [nI_1, dy_sh1, if_neg c_22, if_pos c_32, if_neg c_41]) rfl (ih w (hw.to (by first | (rw [dy_sh1, if_neg c_22, if_pos c_32, if_neg c_41]; done) | (rw [dy_sh1, if_neg c_22, if_pos c_32, if_neg c_41]; rfl))))
        · refine v_aload_n hX dX3_shelve_44 rfl ?_
          refine dv_get hX dX3_shelve_45 hw 9 (by decide) q608 rfl ?_
          refine v_iload_n hX dX3_shelve_48 rfl ?_
          refine dv_iald hX dX3_shelve_49 hw (by decide) rfl rfl (h20) ?_
          refine v_aload_n hX dX3_shelve_50 rfl ?_
          refine v_iload_n hX dX3_shelve_51 rfl ?_
          refine dv_callR hX rfl dX3_shelve_52 q810 cf_X3_ripe hw (mX3_ripe hg hw hP _ hbn) rfl ⟨rfl, rfl⟩ ⟨Nat.le_of_ble_eq_true rfl, Nat.le_of_ble_eq_true rfl⟩ rfl (Nat.le_of_ble_eq_true rfl) ⟨Nat.le_of_ble_eq_true rfl, Nat.le_of_ble_eq_true rfl⟩ ?_
          refine v_icmp_lt (tgt := 68) hX dX3_shelve_55 rfl (fun c_55 => ?_) (fun c_55 => ?_)
          · refine v_iinc (lv' := [_, _, _]) hX dX3_shelve_68 rfl ki1 rfl rfl ?_
            refine v_goto (tgt := 13) hX dX3_shelve_71 rfl ?_
            exact V.at rfl (by rw [nI_1, dy_sh1, if_neg c_22, if_pos c_32, if_pos c_41, if_pos c_55]) rfl (ih w (hw.to (by first | (rw [dy_sh1, if_neg c_22, if_pos c_32, if_pos c_41, if_pos c_55]; done) | (rw [dy_sh1, if_neg c_22, if_pos c_32, if_pos c_41, if_pos c_55]; rfl))))
          · refine v_aload_n hX dX3_shelve_58 rfl ?_
            refine dv_get hX dX3_shelve_59 hw 11 (by decide) q612 rfl ?_
            refine v_iload_n hX dX3_shelve_62 rfl ?_
            refine v_iconst hX dX3_shelve_63 ki1 ?_
            refine dv_zast hX dX3_shelve_64 hw (by decide) rfl rfl (h20) (fun w hw => ?_)
            refine v_iinc (lv' := [_, _, _]) hX dX3_shelve_65 rfl kim1 rfl rfl ?_
            refine v_iinc (lv' := [_, _, _]) hX dX3_shelve_68 rfl ki1 rfl rfl ?_
            refine v_goto (tgt := 13) hX dX3_shelve_71 rfl ?_
            exact V.at rfl (by rw [nI_1, dy_sh1, if_neg c_22, if_pos c_32, if_pos c_41, if_neg c_55]) rfl (ih w (hw.to (by first | (rw [dy_sh1, if_neg c_22, if_pos c_32, if_pos c_41, if_neg c_55]; done) | (rw [dy_sh1, if_neg c_22, if_pos c_32, if_pos c_41, if_neg c_55]; rfl))))
theorem cf_X3_mix : CF RX3 yX3_mix cX3_mix 6 none 1 := ⟨q882, qs13, q144, q883, by decide +kernel⟩
theorem mX3_mix {Γ : Gm} {l : Launch} (hg : gC Γ) {G : Nat → Nat} {wB : Wd} {x : DS} {w : Wd} (hw : dW Γ G wB x w) {S : Sh} {P : Pl} (hP : dP Γ S P wB x) {nw T : Nat} {z : TS} (hr : R S P nw T x z) {t : Nat} (ht : t < 1440) : M0 Γ l yX3_mix (ws_ yX3_mix cX3_mix 6 none) (rl 4 0 0) 0 0 [.ref (G 19), .int (nI t)] w (fun r9 w9 => r9 = none ∧ dW Γ G wB (dy_mix S P (nI t) x) w9) := by
  refine M0.of (lv := [some (.ref (G 19)), some (.int (nI t)), none, none, none, none]) (by decide) (Nat.le_of_ble_eq_true rfl) 4 rfl rfl ?_
  intro X hX hR hl hG hnm
  subst hl; subst hG
  refine v_iconst hX dX3_mix_0 ki0 ?_
  refine v_istore_n (lv' := [_, _, _, _, _, _]) hX dX3_mix_1 (Nat.le_of_ble_eq_true rfl) rfl rfl ?_
  refine V.no (lv' := [_, _, _, _, _, _]) 3 rfl ?_
  refine V.no (lv' := [_, _, _, _, _, _]) 4 rfl ?_
  refine V.no (lv' := [_, _, _, _, _, _]) 5 rfl ?_
  refine loop_up (qm P) (fun i => ∀ w, dW (xG X) G wB ((it (dy_mx1 S P (nI t)) (i) x)) w → V X w 0 0 2 [some (.ref (G 19)), some (.int (nI t)), some (.int (nI (i))), none, none, none] []) ?_ ?_ 0 (Nat.zero_le _) w hw
  · intro w hw
    have hP : dP (xG X) S P wB (it (dy_mx1 S P (nI t)) (qm P) x) := hP.kd (kd_it (dy_mx1_k _ _ _) _ _)
    refine v_iload_n hX dX3_mix_2 rfl ?_
    refine v_aload_n hX dX3_mix_3 rfl ?_
    refine v_iconst hX dX3_mix_4 ki0 ?_
    refine dv_callR hX rfl dX3_mix_5 q774 cf_X3_setting hw (mX3_setting hg hw hP _ (vin (by decide))) rfl ⟨rfl, rfl⟩ ⟨Nat.le_of_ble_eq_true rfl, Nat.le_of_ble_eq_true rfl⟩ rfl (Nat.le_of_ble_eq_true rfl) ⟨Nat.le_of_ble_eq_true rfl, Nat.le_of_ble_eq_true rfl⟩ ?_
    refine v_icmp_ge_t (tgt := 187) hX dX3_mix_8 rfl (ge_x (show pS P 0 = nI (qm P) from hP.2.2.1.2.1.1) rfl) ?_
    exact v_vret hX dX3_mix_187 hR (Nat.le_of_ble_eq_true rfl) (Nat.le_of_ble_eq_true rfl) (⟨rfl, hw⟩)
  · intro i hi ih w hw
    have ih : ∀ w, dW (xG X) G wB (((dy_mx1 S P (nI t)) i (it (dy_mx1 S P (nI t)) (i) x))) w → V X w 0 0 2 [some (.ref (G 19)), some (.int (nI t)), some (.int (nI (i + 1))), none, none, none] [] := ih
    have hP : dP (xG X) S P wB (it (dy_mx1 S P (nI t)) i x) := hP.kd (kd_it (dy_mx1_k _ _ _) _ _)
    have hr : R S P nw T (it (dy_mx1 S P (nI t)) i x) (it (tw_mix1 (nI t)) i z) := R_mixN hr ht (Nat.le_of_lt hi)
    have h3 : vp_in (nI i) 3 := vnI (Nat.lt_of_lt_of_le hi hr.qm) (by decide)
    have hnx : dy_nx P (nI t) (it (dy_mx1 S P (nI t)) i x) = -1 ∨ vp_in (dy_nx P (nI t) (it (dy_mx1 S P (nI t)) i x)) P.nb := ff_ok (Nat.le_trans hr.nb (by decide))
    generalize (it (dy_mx1 S P (nI t)) (i) x) = y at hw ih hP hr hnx
    refine v_iload_n hX dX3_mix_2 rfl ?_
    refine v_aload_n hX dX3_mix_3 rfl ?_
    refine v_iconst hX dX3_mix_4 ki0 ?_
    refine dv_callR hX rfl dX3_mix_5 q774 cf_X3_setting hw (mX3_setting hg hw hP _ (vin (by decide))) rfl ⟨rfl, rfl⟩ ⟨Nat.le_of_ble_eq_true rfl, Nat.le_of_ble_eq_true rfl⟩ rfl (Nat.le_of_ble_eq_true rfl) ⟨Nat.le_of_ble_eq_true rfl, Nat.le_of_ble_eq_true rfl⟩ ?_
    refine v_icmp_ge_f (tgt := 187) hX dX3_mix_8 rfl (ge_s (show pS P 0 = nI (qm P) from hP.2.2.1.2.1.1) hi (Nat.le_trans hP.2.2.1.2.1.2.2 (by decide))) ?_
    refine v_aload_n hX dX3_mix_11 rfl ?_
    refine dv_get hX dX3_mix_12 hw 12 (by decide) q613 rfl ?_
    refine v_iload_n hX dX3_mix_15 rfl ?_
    refine dv_iald hX dX3_mix_16 hw (by decide) rfl rfl (h3) ?_
    refine v_iconst hX dX3_mix_17 kim1 ?_
    refine v_icmp_ne (tgt := 29) hX dX3_mix_18 rfl (fun c_18 => ?_) (fun c_18 => ?_)
    · refine v_iconst hX dX3_mix_29 kim1 ?_
      refine v_istore_n (lv' := [_, _, _, _, _, _]) hX dX3_mix_30 (Nat.le_of_ble_eq_true rfl) rfl rfl ?_
      refine v_iload_n hX dX3_mix_31 rfl ?_
      refine v_iconst hX dX3_mix_32 kim1 ?_
      refine v_icmp_ne_f (tgt := 39) hX dX3_mix_33 rfl (rfl) ?_
      refine v_goto (tgt := 181) hX dX3_mix_36 rfl ?_
      refine v_iinc (lv' := [_, _, _, _, _, _]) hX dX3_mix_181 rfl ki1 rfl rfl ?_
      refine v_goto (tgt := 2) hX dX3_mix_184 rfl ?_
      refine V.no (lv' := [_, _, _, _, _, _]) 3 rfl ?_
      refine V.no (lv' := [_, _, _, _, _, _]) 4 rfl ?_
      refine V.no (lv' := [_, _, _, _, _, _]) 5 rfl ?_
      exact V.at rfl (by rw [nI_1]) rfl (ih w (hw.to (by first | (rw [dy_mx1, if_neg c_18]; done) | (rw [dy_mx1, if_neg c_18]; rfl))))
    · refine v_aload_n hX dX3_mix_21 rfl ?_
      refine v_iload_n hX dX3_mix_22 rfl ?_
      refine dv_callR hX rfl dX3_mix_23 q884 cf_X3_nextBatch hw (mX3_nextBatch hg hw hP _) rfl ⟨rfl, rfl⟩ ⟨Nat.le_of_ble_eq_true rfl, Nat.le_of_ble_eq_true rfl⟩ rfl (Nat.le_of_ble_eq_true rfl) ⟨Nat.le_of_ble_eq_true rfl, Nat.le_of_ble_eq_true rfl⟩ ?_
      refine v_goto (tgt := 30) hX dX3_mix_26 rfl ?_
      refine V.topi (y := dy_nx P (nI t) y) rfl ?_
      refine v_istore_n (lv' := [_, _, _, _, _, _]) hX dX3_mix_30 (Nat.le_of_ble_eq_true rfl) rfl rfl ?_
      refine v_iload_n hX dX3_mix_31 rfl ?_
      refine v_iconst hX dX3_mix_32 kim1 ?_
      refine v_icmp_ne (tgt := 39) hX dX3_mix_33 rfl (fun c_33 => ?_) (fun c_33 => ?_)
      · refine v_aload_n hX dX3_mix_39 rfl ?_
        refine dv_get hX dX3_mix_40 hw 22 (by decide) q629 rfl ?_
        refine v_iload_n hX dX3_mix_43 rfl ?_
        refine v_cVe hX rfl dX3_mix_44 q782 c2_X2_productOf q784 rfl cl_2 (hP.2.1.day hw).1 (m3_productOf hg (hP.1.day hw) (hP.2.1.day hw) hP.2.2.1 _ (hnx.resolve_left c_33)) rfl ⟨rfl, rfl⟩ ⟨Nat.le_of_ble_eq_true rfl, Nat.le_of_ble_eq_true rfl⟩ rfl (Nat.le_of_ble_eq_true rfl) ⟨Nat.le_of_ble_eq_true rfl, Nat.le_of_ble_eq_true rfl⟩ ?_
        refine v_astore (lv' := [_, _, _, _, _, _]) hX dX3_mix_47 (Nat.le_of_ble_eq_true rfl) rfl rfl ?_
        refine v_aload_n hX dX3_mix_49 rfl ?_
        refine dv_get hX dX3_mix_50 hw 14 (by decide) q615 rfl ?_
        refine v_iload_n hX dX3_mix_53 rfl ?_
        refine dv_iald hX dX3_mix_54 hw (by decide) rfl rfl (h3) ?_
        refine v_iconst hX dX3_mix_55 kim1 ?_
        refine v_icmp_eq (tgt := 77) hX dX3_mix_56 rfl (fun c_56 => ?_) (fun c_56 => ?_)
        · refine v_iconst hX dX3_mix_77 ki0 ?_
          refine v_istore (lv' := [_, _, _, _, _, _]) hX dX3_mix_78 (Nat.le_of_ble_eq_true rfl) rfl rfl ?_
          refine v_aload_n hX dX3_mix_80 rfl ?_
          refine v_dup hX dX3_mix_81 rfl ?_
          refine dv_get hX dX3_mix_82 hw 19 (by decide) q624 rfl ?_
          refine v_iload hX dX3_mix_85 rfl ?_
          refine v_if_eq_t (tgt := 94) hX dX3_mix_87 rfl (rfl) ?_
          refine v_iconst hX dX3_mix_94 ki0 ?_
          refine v_iadd hX dX3_mix_95 ?_
          refine dv_putI hX dX3_mix_96 hw 19 (by decide) q624 rfl rfl rfl rfl (fun w hw => ?_)
          refine v_aload_n hX dX3_mix_99 rfl ?_
          refine dv_get hX dX3_mix_100 hw 0 (by decide) q591 rfl ?_
          refine v_iload_n hX dX3_mix_103 rfl ?_
          refine v_iconst hX dX3_mix_104 ki1 ?_
          refine dv_iast hX dX3_mix_105 hw (by decide) rfl rfl ((vor hnx hP.2.2.2.2).resolve_left c_33) (fun w hw => ?_)
          refine v_aload_n hX dX3_mix_106 rfl ?_
          refine dv_get hX dX3_mix_107 hw 1 (by decide) q592 rfl ?_
          refine v_iload_n hX dX3_mix_110 rfl ?_
          refine v_iload_n hX dX3_mix_111 rfl ?_
          refine dv_iast hX dX3_mix_112 hw (by decide) rfl rfl ((vor hnx hP.2.2.2.2).resolve_left c_33) (fun w hw => ?_)
          refine v_aload_n hX dX3_mix_113 rfl ?_
          refine dv_get hX dX3_mix_114 hw 2 (by decide) q594 rfl ?_
          refine v_iload_n hX dX3_mix_117 rfl ?_
          refine v_iload_n hX dX3_mix_118 rfl ?_
          refine v_iload hX dX3_mix_119 rfl ?_
          refine v_if_eq_t (tgt := 132) hX dX3_mix_121 rfl (rfl) ?_
          refine v_iconst hX dX3_mix_132 ki0 ?_
          refine v_iadd hX dX3_mix_133 ?_
          refine dv_iast hX dX3_mix_134 hw (by decide) rfl rfl ((vor hnx hP.2.2.2.2).resolve_left c_33) (fun w hw => ?_)
          refine v_aload_n hX dX3_mix_135 rfl ?_
          refine dv_get hX dX3_mix_136 hw 12 (by decide) q613 rfl ?_
          refine v_iload_n hX dX3_mix_139 rfl ?_
          refine v_iload_n hX dX3_mix_140 rfl ?_
          refine dv_iast hX dX3_mix_141 hw (by decide) rfl rfl (h3) (fun w hw => ?_)
          refine v_aload_n hX dX3_mix_142 rfl ?_
          refine dv_get hX dX3_mix_143 hw 13 (by decide) q614 rfl ?_
          refine v_iload_n hX dX3_mix_146 rfl ?_
          refine v_aload_n hX dX3_mix_147 rfl ?_
          refine dv_get hX dX3_mix_148 hw 2 (by decide) q594 rfl ?_
          refine v_iload_n hX dX3_mix_151 rfl ?_
          refine dv_iald hX dX3_mix_152 hw (by decide) rfl rfl ((vor hnx hP.2.2.2.2).resolve_left c_33) ?_
          refine v_aload hX dX3_mix_153 rfl ?_
          refine v_getM hX dX3_mix_155 hg in_X11 cl_9 2 (by decide) q1368 (fun _ h => h) (plX_at (hP.1.day hw) hP.2.2.1 (hnx.resolve_left c_33)) rfl ?_
          refine v_iadd hX dX3_mix_158 ?_
          refine dv_iast hX dX3_mix_159 hw (by decide) rfl rfl (h3) (fun w hw => ?_)
          refine v_aload_n hX dX3_mix_160 rfl ?_
          refine dv_get hX dX3_mix_161 hw 14 (by decide) q615 rfl ?_
          refine v_iload_n hX dX3_mix_164 rfl ?_
          refine v_aload hX dX3_mix_165 rfl ?_
          refine v_getM hX dX3_mix_167 hg in_X11 cl_9 1 (by decide) q1366 (fun _ h => h) (plX_at (hP.1.day hw) hP.2.2.1 (hnx.resolve_left c_33)) rfl ?_
          refine dv_iast hX dX3_mix_170 hw (by decide) rfl rfl (h3) (fun w hw => ?_)
          refine v_aload_n hX dX3_mix_171 rfl ?_
          refine dv_get hX dX3_mix_172 hw 15 (by decide) q616 rfl ?_
          refine v_iload_n hX dX3_mix_175 rfl ?_
          refine v_dup2 hX dX3_mix_176 rfl rfl ?_
          refine dv_iald hX dX3_mix_177 hw (by decide) rfl rfl (h3) ?_
          refine v_iconst hX dX3_mix_178 ki1 ?_
          refine v_iadd hX dX3_mix_179 ?_
          refine dv_iast hX dX3_mix_180 hw (by decide) rfl rfl (h3) (fun w hw => ?_)
          refine v_iinc (lv' := [_, _, _, _, _, _]) hX dX3_mix_181 rfl ki1 rfl rfl ?_
          refine v_goto (tgt := 2) hX dX3_mix_184 rfl ?_
          refine V.no (lv' := [_, _, _, _, _, _]) 3 rfl ?_
          refine V.no (lv' := [_, _, _, _, _, _]) 4 rfl ?_
          refine V.no (lv' := [_, _, _, _, _, _]) 5 rfl ?_
          exact V.at rfl (by rw [nI_1]) rfl (ih w (hw.to (by first | (rw [dy_mx1, if_pos c_18, if_neg c_33, dy_mxB, if_pos c_56]; done) | (rw [dy_mx1, if_pos c_18, if_neg c_33, dy_mxB, if_pos c_56]; rfl))))
        · refine v_aload_n hX dX3_mix_59 rfl ?_
          refine dv_get hX dX3_mix_60 hw 14 (by decide) q615 rfl ?_
          refine v_iload_n hX dX3_mix_63 rfl ?_
          refine dv_iald hX dX3_mix_64 hw (by decide) rfl rfl (h3) ?_
          refine v_aload hX dX3_mix_65 rfl ?_
          refine v_getM hX dX3_mix_67 hg in_X11 cl_9 1 (by decide) q1366 (fun _ h => h) (plX_at (hP.1.day hw) hP.2.2.1 (hnx.resolve_left c_33)) rfl ?_
          refine v_icmp_eq (tgt := 77) hX dX3_mix_70 rfl (fun c_70 => ?_) (fun c_70 => ?_)
          · refine v_iconst hX dX3_mix_77 ki0 ?_
            refine v_istore (lv' := [_, _, _, _, _, _]) hX dX3_mix_78 (Nat.le_of_ble_eq_true rfl) rfl rfl ?_
            refine v_aload_n hX dX3_mix_80 rfl ?_
            refine v_dup hX dX3_mix_81 rfl ?_
            refine dv_get hX dX3_mix_82 hw 19 (by decide) q624 rfl ?_
            refine v_iload hX dX3_mix_85 rfl ?_
            refine v_if_eq_t (tgt := 94) hX dX3_mix_87 rfl (rfl) ?_
            refine v_iconst hX dX3_mix_94 ki0 ?_
            refine v_iadd hX dX3_mix_95 ?_
            refine dv_putI hX dX3_mix_96 hw 19 (by decide) q624 rfl rfl rfl rfl (fun w hw => ?_)
            refine v_aload_n hX dX3_mix_99 rfl ?_
            refine dv_get hX dX3_mix_100 hw 0 (by decide) q591 rfl ?_
            refine v_iload_n hX dX3_mix_103 rfl ?_
            refine v_iconst hX dX3_mix_104 ki1 ?_
            refine dv_iast hX dX3_mix_105 hw (by decide) rfl rfl ((vor hnx hP.2.2.2.2).resolve_left c_33) (fun w hw => ?_)
            refine v_aload_n hX dX3_mix_106 rfl ?_
            refine dv_get hX dX3_mix_107 hw 1 (by decide) q592 rfl ?_
            refine v_iload_n hX dX3_mix_110 rfl ?_
            refine v_iload_n hX dX3_mix_111 rfl ?_
            refine dv_iast hX dX3_mix_112 hw (by decide) rfl rfl ((vor hnx hP.2.2.2.2).resolve_left c_33) (fun w hw => ?_)
            refine v_aload_n hX dX3_mix_113 rfl ?_
            refine dv_get hX dX3_mix_114 hw 2 (by decide) q594 rfl ?_
            refine v_iload_n hX dX3_mix_117 rfl ?_
            refine v_iload_n hX dX3_mix_118 rfl ?_
            refine v_iload hX dX3_mix_119 rfl ?_
            refine v_if_eq_t (tgt := 132) hX dX3_mix_121 rfl (rfl) ?_
            refine v_iconst hX dX3_mix_132 ki0 ?_
            refine v_iadd hX dX3_mix_133 ?_
            refine dv_iast hX dX3_mix_134 hw (by decide) rfl rfl ((vor hnx hP.2.2.2.2).resolve_left c_33) (fun w hw => ?_)
            refine v_aload_n hX dX3_mix_135 rfl ?_
            refine dv_get hX dX3_mix_136 hw 12 (by decide) q613 rfl ?_
            refine v_iload_n hX dX3_mix_139 rfl ?_
            refine v_iload_n hX dX3_mix_140 rfl ?_
            refine dv_iast hX dX3_mix_141 hw (by decide) rfl rfl (h3) (fun w hw => ?_)
            refine v_aload_n hX dX3_mix_142 rfl ?_
            refine dv_get hX dX3_mix_143 hw 13 (by decide) q614 rfl ?_
            refine v_iload_n hX dX3_mix_146 rfl ?_
            refine v_aload_n hX dX3_mix_147 rfl ?_
            refine dv_get hX dX3_mix_148 hw 2 (by decide) q594 rfl ?_
            refine v_iload_n hX dX3_mix_151 rfl ?_
            refine dv_iald hX dX3_mix_152 hw (by decide) rfl rfl ((vor hnx hP.2.2.2.2).resolve_left c_33) ?_
            refine v_aload hX dX3_mix_153 rfl ?_
            refine v_getM hX dX3_mix_155 hg in_X11 cl_9 2 (by decide) q1368 (fun _ h => h) (plX_at (hP.1.day hw) hP.2.2.1 (hnx.resolve_left c_33)) rfl ?_
            refine v_iadd hX dX3_mix_158 ?_
            refine dv_iast hX dX3_mix_159 hw (by decide) rfl rfl (h3) (fun w hw => ?_)
            refine v_aload_n hX dX3_mix_160 rfl ?_
            refine dv_get hX dX3_mix_161 hw 14 (by decide) q615 rfl ?_
            refine v_iload_n hX dX3_mix_164 rfl ?_
            refine v_aload hX dX3_mix_165 rfl ?_
            refine v_getM hX dX3_mix_167 hg in_X11 cl_9 1 (by decide) q1366 (fun _ h => h) (plX_at (hP.1.day hw) hP.2.2.1 (hnx.resolve_left c_33)) rfl ?_
            refine dv_iast hX dX3_mix_170 hw (by decide) rfl rfl (h3) (fun w hw => ?_)
            refine v_aload_n hX dX3_mix_171 rfl ?_
            refine dv_get hX dX3_mix_172 hw 15 (by decide) q616 rfl ?_
            refine v_iload_n hX dX3_mix_175 rfl ?_
            refine v_dup2 hX dX3_mix_176 rfl rfl ?_
            refine dv_iald hX dX3_mix_177 hw (by decide) rfl rfl (h3) ?_
            refine v_iconst hX dX3_mix_178 ki1 ?_
            refine v_iadd hX dX3_mix_179 ?_
            refine dv_iast hX dX3_mix_180 hw (by decide) rfl rfl (h3) (fun w hw => ?_)
            refine v_iinc (lv' := [_, _, _, _, _, _]) hX dX3_mix_181 rfl ki1 rfl rfl ?_
            refine v_goto (tgt := 2) hX dX3_mix_184 rfl ?_
            refine V.no (lv' := [_, _, _, _, _, _]) 3 rfl ?_
            refine V.no (lv' := [_, _, _, _, _, _]) 4 rfl ?_
            refine V.no (lv' := [_, _, _, _, _, _]) 5 rfl ?_
            exact V.at rfl (by rw [nI_1]) rfl (ih w (hw.to (by first | (rw [dy_mx1, if_pos c_18, if_neg c_33, dy_mxB, if_neg c_56, if_pos c_70]; done) | (rw [dy_mx1, if_pos c_18, if_neg c_33, dy_mxB, if_neg c_56, if_pos c_70]; rfl))))
          · refine v_iconst hX dX3_mix_73 ki1 ?_
            refine v_goto (tgt := 78) hX dX3_mix_74 rfl ?_
            refine v_istore (lv' := [_, _, _, _, _, _]) hX dX3_mix_78 (Nat.le_of_ble_eq_true rfl) rfl rfl ?_
            refine v_aload_n hX dX3_mix_80 rfl ?_
            refine v_dup hX dX3_mix_81 rfl ?_
            refine dv_get hX dX3_mix_82 hw 19 (by decide) q624 rfl ?_
            refine v_iload hX dX3_mix_85 rfl ?_
            refine v_if_eq_f (tgt := 94) hX dX3_mix_87 rfl (by decide) ?_
            refine v_iconst hX dX3_mix_90 ki1 ?_
            refine v_goto (tgt := 95) hX dX3_mix_91 rfl ?_
            refine v_iadd hX dX3_mix_95 ?_
            refine dv_putI hX dX3_mix_96 hw 19 (by decide) q624 rfl rfl rfl rfl (fun w hw => ?_)
            refine v_aload_n hX dX3_mix_99 rfl ?_
            refine dv_get hX dX3_mix_100 hw 0 (by decide) q591 rfl ?_
            refine v_iload_n hX dX3_mix_103 rfl ?_
            refine v_iconst hX dX3_mix_104 ki1 ?_
            refine dv_iast hX dX3_mix_105 hw (by decide) rfl rfl ((vor hnx hP.2.2.2.2).resolve_left c_33) (fun w hw => ?_)
            refine v_aload_n hX dX3_mix_106 rfl ?_
            refine dv_get hX dX3_mix_107 hw 1 (by decide) q592 rfl ?_
            refine v_iload_n hX dX3_mix_110 rfl ?_
            refine v_iload_n hX dX3_mix_111 rfl ?_
            refine dv_iast hX dX3_mix_112 hw (by decide) rfl rfl ((vor hnx hP.2.2.2.2).resolve_left c_33) (fun w hw => ?_)
            refine v_aload_n hX dX3_mix_113 rfl ?_
            refine dv_get hX dX3_mix_114 hw 2 (by decide) q594 rfl ?_
            refine v_iload_n hX dX3_mix_117 rfl ?_
            refine v_iload_n hX dX3_mix_118 rfl ?_
            refine v_iload hX dX3_mix_119 rfl ?_
            refine v_if_eq_f (tgt := 132) hX dX3_mix_121 rfl (by decide) ?_
            refine v_aload_n hX dX3_mix_124 rfl ?_
            refine v_iconst hX dX3_mix_125 ki3 ?_
            refine dv_callR hX rfl dX3_mix_126 q774 cf_X3_setting hw (mX3_setting hg hw hP _ (vin (by decide))) rfl ⟨rfl, rfl⟩ ⟨Nat.le_of_ble_eq_true rfl, Nat.le_of_ble_eq_true rfl⟩ rfl (Nat.le_of_ble_eq_true rfl) ⟨Nat.le_of_ble_eq_true rfl, Nat.le_of_ble_eq_true rfl⟩ ?_
            refine v_goto (tgt := 133) hX dX3_mix_129 rfl ?_
            refine v_iadd hX dX3_mix_133 ?_
            refine dv_iast hX dX3_mix_134 hw (by decide) rfl rfl ((vor hnx hP.2.2.2.2).resolve_left c_33) (fun w hw => ?_)
            refine v_aload_n hX dX3_mix_135 rfl ?_
            refine dv_get hX dX3_mix_136 hw 12 (by decide) q613 rfl ?_
            refine v_iload_n hX dX3_mix_139 rfl ?_
            refine v_iload_n hX dX3_mix_140 rfl ?_
            refine dv_iast hX dX3_mix_141 hw (by decide) rfl rfl (h3) (fun w hw => ?_)
            refine v_aload_n hX dX3_mix_142 rfl ?_
            refine dv_get hX dX3_mix_143 hw 13 (by decide) q614 rfl ?_
            refine v_iload_n hX dX3_mix_146 rfl ?_
            refine v_aload_n hX dX3_mix_147 rfl ?_
            refine dv_get hX dX3_mix_148 hw 2 (by decide) q594 rfl ?_
            refine v_iload_n hX dX3_mix_151 rfl ?_
            refine dv_iald hX dX3_mix_152 hw (by decide) rfl rfl ((vor hnx hP.2.2.2.2).resolve_left c_33) ?_
            refine v_aload hX dX3_mix_153 rfl ?_
            refine v_getM hX dX3_mix_155 hg in_X11 cl_9 2 (by decide) q1368 (fun _ h => h) (plX_at (hP.1.day hw) hP.2.2.1 (hnx.resolve_left c_33)) rfl ?_
            refine v_iadd hX dX3_mix_158 ?_
            refine dv_iast hX dX3_mix_159 hw (by decide) rfl rfl (h3) (fun w hw => ?_)
            refine v_aload_n hX dX3_mix_160 rfl ?_
            refine dv_get hX dX3_mix_161 hw 14 (by decide) q615 rfl ?_
            refine v_iload_n hX dX3_mix_164 rfl ?_
            refine v_aload hX dX3_mix_165 rfl ?_
            refine v_getM hX dX3_mix_167 hg in_X11 cl_9 1 (by decide) q1366 (fun _ h => h) (plX_at (hP.1.day hw) hP.2.2.1 (hnx.resolve_left c_33)) rfl ?_
            refine dv_iast hX dX3_mix_170 hw (by decide) rfl rfl (h3) (fun w hw => ?_)
            refine v_aload_n hX dX3_mix_171 rfl ?_
            refine dv_get hX dX3_mix_172 hw 15 (by decide) q616 rfl ?_
            refine v_iload_n hX dX3_mix_175 rfl ?_
            refine v_dup2 hX dX3_mix_176 rfl rfl ?_
            refine dv_iald hX dX3_mix_177 hw (by decide) rfl rfl (h3) ?_
            refine v_iconst hX dX3_mix_178 ki1 ?_
            refine v_iadd hX dX3_mix_179 ?_
            refine dv_iast hX dX3_mix_180 hw (by decide) rfl rfl (h3) (fun w hw => ?_)
            refine v_iinc (lv' := [_, _, _, _, _, _]) hX dX3_mix_181 rfl ki1 rfl rfl ?_
            refine v_goto (tgt := 2) hX dX3_mix_184 rfl ?_
            refine V.no (lv' := [_, _, _, _, _, _]) 3 rfl ?_
            refine V.no (lv' := [_, _, _, _, _, _]) 4 rfl ?_
            refine V.no (lv' := [_, _, _, _, _, _]) 5 rfl ?_
            exact V.at rfl (by rw [nI_1]) rfl (ih w (hw.to (by first | (rw [dy_mx1, if_pos c_18, if_neg c_33, dy_mxB, if_neg c_56, if_neg c_70]; done) | (rw [dy_mx1, if_pos c_18, if_neg c_33, dy_mxB, if_neg c_56, if_neg c_70]; rfl))))
      · refine v_goto (tgt := 181) hX dX3_mix_36 rfl ?_
        refine v_iinc (lv' := [_, _, _, _, _, _]) hX dX3_mix_181 rfl ki1 rfl rfl ?_
        refine v_goto (tgt := 2) hX dX3_mix_184 rfl ?_
        refine V.no (lv' := [_, _, _, _, _, _]) 3 rfl ?_
        refine V.no (lv' := [_, _, _, _, _, _]) 4 rfl ?_
        refine V.no (lv' := [_, _, _, _, _, _]) 5 rfl ?_
        exact V.at rfl (by rw [nI_1]) rfl (ih w (hw.to (by first | (rw [dy_mx1, if_pos c_18, if_pos c_33]; done) | (rw [dy_mx1, if_pos c_18, if_pos c_33]; rfl))))
theorem cf_X3_grow : CF RX3 yX3_grow cX3_grow 3 none 0 := ⟨q892, qs15, q144, q893, by decide +kernel⟩
theorem mX3_grow {Γ : Gm} {l : Launch} (hg : gC Γ) {G : Nat → Nat} {wB : Wd} {x : DS} {w : Wd} (hw : dW Γ G wB x w) {S : Sh} {P : Pl} (hP : dP Γ S P wB x) {nw T : Nat} {z : TS} (hr : R S P nw T x z) : M0 Γ l yX3_grow (ws_ yX3_grow cX3_grow 3 none) (rl 4 0 0) 0 0 [.ref (G 19)] w (fun r9 w9 => r9 = none ∧ dW Γ G wB (dy_gro S P x) w9) := by
  refine M0.of (lv := [some (.ref (G 19)), none, none]) (by decide) (Nat.le_of_ble_eq_true rfl) 2 rfl rfl ?_
  intro X hX hR hl hG hnm
  subst hl; subst hG
  refine v_iconst hX dX3_grow_0 ki0 ?_
  refine v_istore_n (lv' := [_, _, _]) hX dX3_grow_1 (Nat.le_of_ble_eq_true rfl) rfl rfl ?_
  refine V.no (lv' := [_, _, _]) 2 rfl ?_
  refine loop_up (P.nb) (fun i => ∀ w, dW (xG X) G wB ((it (dy_gr1 P) (i) x)) w → V X w 0 0 2 [some (.ref (G 19)), some (.int (nI (i))), none] []) ?_ ?_ 0 (Nat.zero_le _) w hw
  · intro w hw
    have hP : dP (xG X) S P wB (it (dy_gr1 P) P.nb x) := hP.kd (kd_it (dy_gr1_k _) _ _)
    have hr := (R_groN hr (Nat.le_refl P.nb)).1
    generalize hx1 : it (dy_gr1 P) P.nb x = x1 at hw hP hr
    refine v_iload_n hX dX3_grow_2 rfl ?_
    refine v_aload_n hX dX3_grow_3 rfl ?_
    refine dv_get hX dX3_grow_4 hw 21 (by decide) q628 rfl ?_
    refine v_icmp_ge_t (tgt := 76) hX dX3_grow_7 rfl (ge_x hP.2.2.2.1 rfl) ?_
    refine v_iconst hX dX3_grow_76 ki0 ?_
    refine v_istore_n (lv' := [_, _, _]) hX dX3_grow_77 (Nat.le_of_ble_eq_true rfl) rfl rfl ?_
    refine V.no (lv' := [_, _, _]) 2 rfl ?_
    refine loop_up (qd P) (fun i => ∀ w, dW (xG X) G wB ((it (dy_gd1 S P) (i) x1)) w → V X w 0 0 78 [some (.ref (G 19)), some (.int (nI (i))), none] []) ?_ ?_ 0 (Nat.zero_le _) w hw
    · intro w hw
      have hP : dP (xG X) S P wB (it (dy_gd1 S P) (qd P) x1) := hP.kd (kd_it (dy_gd1_k _ _) _ _)
      refine v_iload_n hX dX3_grow_78 rfl ?_
      refine v_aload_n hX dX3_grow_79 rfl ?_
      refine v_iconst hX dX3_grow_80 ki1 ?_
      refine dv_callR hX rfl dX3_grow_81 q774 cf_X3_setting hw (mX3_setting hg hw hP _ (vin (by decide))) rfl ⟨rfl, rfl⟩ ⟨Nat.le_of_ble_eq_true rfl, Nat.le_of_ble_eq_true rfl⟩ rfl (Nat.le_of_ble_eq_true rfl) ⟨Nat.le_of_ble_eq_true rfl, Nat.le_of_ble_eq_true rfl⟩ ?_
      refine v_icmp_ge_t (tgt := 199) hX dX3_grow_84 rfl (ge_x (show pS P 1 = nI (qd P) from hP.2.2.1.2.2.1.1) rfl) ?_
      exact v_vret hX dX3_grow_199 hR (Nat.le_of_ble_eq_true rfl) (Nat.le_of_ble_eq_true rfl) (⟨rfl, by unfold dy_gro; rw [hx1]; exact hw⟩)
    · intro i hi ih w hw
      have ih : ∀ w, dW (xG X) G wB (((dy_gd1 S P) i (it (dy_gd1 S P) (i) x1))) w → V X w 0 0 78 [some (.ref (G 19)), some (.int (nI (i + 1))), none] [] := ih
      have hP : dP (xG X) S P wB (it (dy_gd1 S P) i x1) := hP.kd (kd_it (dy_gd1_k _ _) _ _)
      have hr := R_gdN hr (Nat.le_of_lt hi)
      have ht4 := hr.tk (Nat.lt_of_lt_of_le hi hr.qd)
      have h4 : vp_in (nI i) 4 := vnI (Nat.lt_of_lt_of_le hi hr.qd) (by decide)
      generalize (it (dy_gd1 S P) (i) x1) = y at hw ih hP hr ht4
      refine v_iload_n hX dX3_grow_78 rfl ?_
      refine v_aload_n hX dX3_grow_79 rfl ?_
      refine v_iconst hX dX3_grow_80 ki1 ?_
      refine dv_callR hX rfl dX3_grow_81 q774 cf_X3_setting hw (mX3_setting hg hw hP _ (vin (by decide))) rfl ⟨rfl, rfl⟩ ⟨Nat.le_of_ble_eq_true rfl, Nat.le_of_ble_eq_true rfl⟩ rfl (Nat.le_of_ble_eq_true rfl) ⟨Nat.le_of_ble_eq_true rfl, Nat.le_of_ble_eq_true rfl⟩ ?_
      refine v_icmp_ge_f (tgt := 199) hX dX3_grow_84 rfl (ge_s (show pS P 1 = nI (qd P) from hP.2.2.1.2.2.1.1) hi (Nat.le_trans hP.2.2.1.2.2.1.2.2 (by decide))) ?_
      refine v_aload_n hX dX3_grow_87 rfl ?_
      refine dv_get hX dX3_grow_88 hw 18 (by decide) q622 rfl ?_
      refine v_iload_n hX dX3_grow_91 rfl ?_
      refine v_dup2 hX dX3_grow_92 rfl rfl ?_
      refine dv_iald hX dX3_grow_93 hw (by decide) rfl rfl (h4) ?_
      refine v_aload_n hX dX3_grow_94 rfl ?_
      refine v_iload_n hX dX3_grow_95 rfl ?_
      refine dv_callR hX rfl dX3_grow_96 q778 cf_X3_isBaking hw (mX3_isBaking hg hw _ h4 (vor ht4 hP.2.2.2.2)) rfl ⟨rfl, rfl⟩ ⟨Nat.le_of_ble_eq_true rfl, Nat.le_of_ble_eq_true rfl⟩ rfl (Nat.le_of_ble_eq_true rfl) ⟨Nat.le_of_ble_eq_true rfl, Nat.le_of_ble_eq_true rfl⟩ ?_
      refine v_ifb_eq (tgt := 106) hX dX3_grow_99 rfl (fun c_99 => ?_) (fun c_99 => ?_)
      · refine v_iconst hX dX3_grow_106 ki0 ?_
        refine v_iadd hX dX3_grow_107 ?_
        refine dv_iast hX dX3_grow_108 hw (by decide) rfl rfl (h4) (fun w hw => ?_)
        refine v_aload_n hX dX3_grow_109 rfl ?_
        refine dv_get hX dX3_grow_110 hw 16 (by decide) q618 rfl ?_
        refine v_iload_n hX dX3_grow_113 rfl ?_
        refine dv_iald hX dX3_grow_114 hw (by decide) rfl rfl (h4) ?_
        refine v_iconst hX dX3_grow_115 kim1 ?_
        refine v_icmp_eq (tgt := 193) hX dX3_grow_116 rfl (fun c_116 => ?_) (fun c_116 => ?_)
        · refine v_iinc (lv' := [_, _, _]) hX dX3_grow_193 rfl ki1 rfl rfl ?_
          refine v_goto (tgt := 78) hX dX3_grow_196 rfl ?_
          refine V.no (lv' := [_, _, _]) 2 rfl ?_
          exact V.at rfl (by rw [nI_1]) rfl (ih w (hw.to (by first | (rw [dy_gd1, dy_gb, if_neg c_99, dy_gh, if_pos c_116]; done) | (rw [dy_gd1, dy_gb, if_neg c_99, dy_gh, if_pos c_116]; rfl))))
        · refine v_aload_n hX dX3_grow_119 rfl ?_
          refine v_iload_n hX dX3_grow_120 rfl ?_
          refine dv_callR hX rfl dX3_grow_121 q778 cf_X3_isBaking hw (mX3_isBaking hg hw _ h4 (vor ht4 hP.2.2.2.2)) rfl ⟨rfl, rfl⟩ ⟨Nat.le_of_ble_eq_true rfl, Nat.le_of_ble_eq_true rfl⟩ rfl (Nat.le_of_ble_eq_true rfl) ⟨Nat.le_of_ble_eq_true rfl, Nat.le_of_ble_eq_true rfl⟩ ?_
          refine v_ifb_ne (tgt := 193) hX dX3_grow_124 rfl (fun c_124 => ?_) (fun c_124 => ?_)
          · refine v_iinc (lv' := [_, _, _]) hX dX3_grow_193 rfl ki1 rfl rfl ?_
            refine v_goto (tgt := 78) hX dX3_grow_196 rfl ?_
            refine V.no (lv' := [_, _, _]) 2 rfl ?_
            exact V.at rfl (by rw [nI_1]) rfl (ih w (hw.to (by first | (rw [dy_gd1, dy_gb, if_neg c_99, dy_gh, if_neg c_116, if_pos c_124]; done) | (rw [dy_gd1, dy_gb, if_neg c_99, dy_gh, if_neg c_116, if_pos c_124]; rfl))))
          · refine v_aload_n hX dX3_grow_127 rfl ?_
            refine dv_get hX dX3_grow_128 hw 22 (by decide) q629 rfl ?_
            refine v_aload_n hX dX3_grow_131 rfl ?_
            refine dv_get hX dX3_grow_132 hw 16 (by decide) q618 rfl ?_
            refine v_iload_n hX dX3_grow_135 rfl ?_
            refine dv_iald hX dX3_grow_136 hw (by decide) rfl rfl (h4) ?_
            refine v_cVe hX rfl dX3_grow_137 q782 c2_X2_productOf q784 rfl cl_2 (hP.2.1.day hw).1 (m3_productOf hg (hP.1.day hw) (hP.2.1.day hw) hP.2.2.1 _ (ht4.resolve_left c_116)) rfl ⟨rfl, rfl⟩ ⟨Nat.le_of_ble_eq_true rfl, Nat.le_of_ble_eq_true rfl⟩ rfl (Nat.le_of_ble_eq_true rfl) ⟨Nat.le_of_ble_eq_true rfl, Nat.le_of_ble_eq_true rfl⟩ ?_
            refine v_getM hX dX3_grow_140 hg in_X11 cl_9 6 (by decide) q1376 (fun _ h => h) (plX_at (hP.1.day hw) hP.2.2.1 (ht4.resolve_left c_116)) rfl ?_
            refine v_aload_n hX dX3_grow_143 rfl ?_
            refine dv_get hX dX3_grow_144 hw 17 (by decide) q620 rfl ?_
            refine v_iload_n hX dX3_grow_147 rfl ?_
            refine dv_iald hX dX3_grow_148 hw (by decide) rfl rfl (h4) ?_
            refine v_isub hX dX3_grow_149 ?_
            refine v_istore_n (lv' := [_, _, _]) hX dX3_grow_150 (Nat.le_of_ble_eq_true rfl) rfl rfl ?_
            refine v_aload_n hX dX3_grow_151 rfl ?_
            refine v_iconst hX dX3_grow_152 ki5 ?_
            refine dv_callR hX rfl dX3_grow_153 q774 cf_X3_setting hw (mX3_setting hg hw hP _ (vin (by decide))) rfl ⟨rfl, rfl⟩ ⟨Nat.le_of_ble_eq_true rfl, Nat.le_of_ble_eq_true rfl⟩ rfl (Nat.le_of_ble_eq_true rfl) ⟨Nat.le_of_ble_eq_true rfl, Nat.le_of_ble_eq_true rfl⟩ ?_
            refine v_ineg hX dX3_grow_156 ?_
            refine v_aload_n hX dX3_grow_157 rfl ?_
            refine v_iconst hX dX3_grow_158 ki5 ?_
            refine dv_callR hX rfl dX3_grow_159 q774 cf_X3_setting hw (mX3_setting hg hw hP _ (vin (by decide))) rfl ⟨rfl, rfl⟩ ⟨Nat.le_of_ble_eq_true rfl, Nat.le_of_ble_eq_true rfl⟩ rfl (Nat.le_of_ble_eq_true rfl) ⟨Nat.le_of_ble_eq_true rfl, Nat.le_of_ble_eq_true rfl⟩ ?_
            refine v_iload_n hX dX3_grow_162 rfl ?_
            refine v_mmin hX rfl dX3_grow_163 q894 (Nat.le_of_ble_eq_true rfl) (Nat.le_of_ble_eq_true rfl) ⟨Nat.le_of_ble_eq_true rfl, Nat.le_of_ble_eq_true rfl⟩ ?_
            refine v_mmax hX rfl dX3_grow_166 q826 (Nat.le_of_ble_eq_true rfl) (Nat.le_of_ble_eq_true rfl) ⟨Nat.le_of_ble_eq_true rfl, Nat.le_of_ble_eq_true rfl⟩ ?_
            refine v_istore_n (lv' := [_, _, _]) hX dX3_grow_169 (Nat.le_of_ble_eq_true rfl) rfl rfl ?_
            refine v_aload_n hX dX3_grow_170 rfl ?_
            refine dv_get hX dX3_grow_171 hw 17 (by decide) q620 rfl ?_
            refine v_iload_n hX dX3_grow_174 rfl ?_
            refine v_dup2 hX dX3_grow_175 rfl rfl ?_
            refine dv_iald hX dX3_grow_176 hw (by decide) rfl rfl (h4) ?_
            refine v_iload_n hX dX3_grow_177 rfl ?_
            refine v_iadd hX dX3_grow_178 ?_
            refine dv_iast hX dX3_grow_179 hw (by decide) rfl rfl (h4) (fun w hw => ?_)
            refine v_aload_n hX dX3_grow_180 rfl ?_
            refine v_dup hX dX3_grow_181 rfl ?_
            refine dv_get hX dX3_grow_182 hw 20 (by decide) q626 rfl ?_
            refine v_iload_n hX dX3_grow_185 rfl ?_
            refine v_mabs hX rfl dX3_grow_186 q830 (Nat.le_of_ble_eq_true rfl) (Nat.le_of_ble_eq_true rfl) ⟨Nat.le_of_ble_eq_true rfl, Nat.le_of_ble_eq_true rfl⟩ ?_
            refine v_iadd hX dX3_grow_189 ?_
            refine dv_putI hX dX3_grow_190 hw 20 (by decide) q626 rfl rfl rfl rfl (fun w hw => ?_)
            refine v_iinc (lv' := [_, _, _]) hX dX3_grow_193 rfl ki1 rfl rfl ?_
            refine v_goto (tgt := 78) hX dX3_grow_196 rfl ?_
            refine V.no (lv' := [_, _, _]) 2 rfl ?_
            exact V.at rfl (by rw [nI_1]) rfl (ih w (hw.to (by first | (rw [dy_gd1, dy_gb, if_neg c_99, dy_gh, if_neg c_116, if_neg c_124, dy_ghU, dy_stp]; done) | (rw [dy_gd1, dy_gb, if_neg c_99, dy_gh, if_neg c_116, if_neg c_124, dy_ghU, dy_stp]; rfl))))
      · refine v_iconst hX dX3_grow_102 ki1 ?_
        refine v_goto (tgt := 107) hX dX3_grow_103 rfl ?_
        refine v_iadd hX dX3_grow_107 ?_
        refine dv_iast hX dX3_grow_108 hw (by decide) rfl rfl (h4) (fun w hw => ?_)
        refine v_aload_n hX dX3_grow_109 rfl ?_
        refine dv_get hX dX3_grow_110 hw 16 (by decide) q618 rfl ?_
        refine v_iload_n hX dX3_grow_113 rfl ?_
        refine dv_iald hX dX3_grow_114 hw (by decide) rfl rfl (h4) ?_
        refine v_iconst hX dX3_grow_115 kim1 ?_
        refine v_icmp_eq (tgt := 193) hX dX3_grow_116 rfl (fun c_116 => ?_) (fun c_116 => ?_)
        · refine v_iinc (lv' := [_, _, _]) hX dX3_grow_193 rfl ki1 rfl rfl ?_
          refine v_goto (tgt := 78) hX dX3_grow_196 rfl ?_
          refine V.no (lv' := [_, _, _]) 2 rfl ?_
          exact V.at rfl (by rw [nI_1]) rfl (ih w (hw.to (by first | (rw [dy_gd1, dy_gb, if_pos c_99, dy_gh, if_pos c_116]; done) | (rw [dy_gd1, dy_gb, if_pos c_99, dy_gh, if_pos c_116]; rfl))))
        · refine v_aload_n hX dX3_grow_119 rfl ?_
          refine v_iload_n hX dX3_grow_120 rfl ?_
          refine dv_callR hX rfl dX3_grow_121 q778 cf_X3_isBaking hw (mX3_isBaking hg hw _ h4 (vor ht4 hP.2.2.2.2)) rfl ⟨rfl, rfl⟩ ⟨Nat.le_of_ble_eq_true rfl, Nat.le_of_ble_eq_true rfl⟩ rfl (Nat.le_of_ble_eq_true rfl) ⟨Nat.le_of_ble_eq_true rfl, Nat.le_of_ble_eq_true rfl⟩ ?_
          refine v_ifb_ne (tgt := 193) hX dX3_grow_124 rfl (fun c_124 => ?_) (fun c_124 => ?_)
          · refine v_iinc (lv' := [_, _, _]) hX dX3_grow_193 rfl ki1 rfl rfl ?_
            refine v_goto (tgt := 78) hX dX3_grow_196 rfl ?_
            refine V.no (lv' := [_, _, _]) 2 rfl ?_
            exact V.at rfl (by rw [nI_1]) rfl (ih w (hw.to (by first | (rw [dy_gd1, dy_gb, if_pos c_99, dy_gh, if_neg c_116, if_pos c_124]; done) | (rw [dy_gd1, dy_gb, if_pos c_99, dy_gh, if_neg c_116, if_pos c_124]; rfl))))
          · refine v_aload_n hX dX3_grow_127 rfl ?_
            refine dv_get hX dX3_grow_128 hw 22 (by decide) q629 rfl ?_
            refine v_aload_n hX dX3_grow_131 rfl ?_
            refine dv_get hX dX3_grow_132 hw 16 (by decide) q618 rfl ?_
            refine v_iload_n hX dX3_grow_135 rfl ?_
            refine dv_iald hX dX3_grow_136 hw (by decide) rfl rfl (h4) ?_
            refine v_cVe hX rfl dX3_grow_137 q782 c2_X2_productOf q784 rfl cl_2 (hP.2.1.day hw).1 (m3_productOf hg (hP.1.day hw) (hP.2.1.day hw) hP.2.2.1 _ (ht4.resolve_left c_116)) rfl ⟨rfl, rfl⟩ ⟨Nat.le_of_ble_eq_true rfl, Nat.le_of_ble_eq_true rfl⟩ rfl (Nat.le_of_ble_eq_true rfl) ⟨Nat.le_of_ble_eq_true rfl, Nat.le_of_ble_eq_true rfl⟩ ?_
            refine v_getM hX dX3_grow_140 hg in_X11 cl_9 6 (by decide) q1376 (fun _ h => h) (plX_at (hP.1.day hw) hP.2.2.1 (ht4.resolve_left c_116)) rfl ?_
            refine v_aload_n hX dX3_grow_143 rfl ?_
            refine dv_get hX dX3_grow_144 hw 17 (by decide) q620 rfl ?_
            refine v_iload_n hX dX3_grow_147 rfl ?_
            refine dv_iald hX dX3_grow_148 hw (by decide) rfl rfl (h4) ?_
            refine v_isub hX dX3_grow_149 ?_
            refine v_istore_n (lv' := [_, _, _]) hX dX3_grow_150 (Nat.le_of_ble_eq_true rfl) rfl rfl ?_
            refine v_aload_n hX dX3_grow_151 rfl ?_
            refine v_iconst hX dX3_grow_152 ki5 ?_
            refine dv_callR hX rfl dX3_grow_153 q774 cf_X3_setting hw (mX3_setting hg hw hP _ (vin (by decide))) rfl ⟨rfl, rfl⟩ ⟨Nat.le_of_ble_eq_true rfl, Nat.le_of_ble_eq_true rfl⟩ rfl (Nat.le_of_ble_eq_true rfl) ⟨Nat.le_of_ble_eq_true rfl, Nat.le_of_ble_eq_true rfl⟩ ?_
            refine v_ineg hX dX3_grow_156 ?_
            refine v_aload_n hX dX3_grow_157 rfl ?_
            refine v_iconst hX dX3_grow_158 ki5 ?_
            refine dv_callR hX rfl dX3_grow_159 q774 cf_X3_setting hw (mX3_setting hg hw hP _ (vin (by decide))) rfl ⟨rfl, rfl⟩ ⟨Nat.le_of_ble_eq_true rfl, Nat.le_of_ble_eq_true rfl⟩ rfl (Nat.le_of_ble_eq_true rfl) ⟨Nat.le_of_ble_eq_true rfl, Nat.le_of_ble_eq_true rfl⟩ ?_
            refine v_iload_n hX dX3_grow_162 rfl ?_
            refine v_mmin hX rfl dX3_grow_163 q894 (Nat.le_of_ble_eq_true rfl) (Nat.le_of_ble_eq_true rfl) ⟨Nat.le_of_ble_eq_true rfl, Nat.le_of_ble_eq_true rfl⟩ ?_
            refine v_mmax hX rfl dX3_grow_166 q826 (Nat.le_of_ble_eq_true rfl) (Nat.le_of_ble_eq_true rfl) ⟨Nat.le_of_ble_eq_true rfl, Nat.le_of_ble_eq_true rfl⟩ ?_
            refine v_istore_n (lv' := [_, _, _]) hX dX3_grow_169 (Nat.le_of_ble_eq_true rfl) rfl rfl ?_
            refine v_aload_n hX dX3_grow_170 rfl ?_
            refine dv_get hX dX3_grow_171 hw 17 (by decide) q620 rfl ?_
            refine v_iload_n hX dX3_grow_174 rfl ?_
            refine v_dup2 hX dX3_grow_175 rfl rfl ?_
            refine dv_iald hX dX3_grow_176 hw (by decide) rfl rfl (h4) ?_
            refine v_iload_n hX dX3_grow_177 rfl ?_
            refine v_iadd hX dX3_grow_178 ?_
            refine dv_iast hX dX3_grow_179 hw (by decide) rfl rfl (h4) (fun w hw => ?_)
            refine v_aload_n hX dX3_grow_180 rfl ?_
            refine v_dup hX dX3_grow_181 rfl ?_
            refine dv_get hX dX3_grow_182 hw 20 (by decide) q626 rfl ?_
            refine v_iload_n hX dX3_grow_185 rfl ?_
            refine v_mabs hX rfl dX3_grow_186 q830 (Nat.le_of_ble_eq_true rfl) (Nat.le_of_ble_eq_true rfl) ⟨Nat.le_of_ble_eq_true rfl, Nat.le_of_ble_eq_true rfl⟩ ?_
            refine v_iadd hX dX3_grow_189 ?_
            refine dv_putI hX dX3_grow_190 hw 20 (by decide) q626 rfl rfl rfl rfl (fun w hw => ?_)
            refine v_iinc (lv' := [_, _, _]) hX dX3_grow_193 rfl ki1 rfl rfl ?_
            refine v_goto (tgt := 78) hX dX3_grow_196 rfl ?_
            refine V.no (lv' := [_, _, _]) 2 rfl ?_
            exact V.at rfl (by rw [nI_1]) rfl (ih w (hw.to (by first | (rw [dy_gd1, dy_gb, if_pos c_99, dy_gh, if_neg c_116, if_neg c_124, dy_ghU, dy_stp]; done) | (rw [dy_gd1, dy_gb, if_pos c_99, dy_gh, if_neg c_116, if_neg c_124, dy_ghU, dy_stp]; rfl))))
  · intro i hi ih w hw
    have ih : ∀ w, dW (xG X) G wB (((dy_gr1 P) i (it (dy_gr1 P) (i) x))) w → V X w 0 0 2 [some (.ref (G 19)), some (.int (nI (i + 1))), none] [] := ih
    have hP : dP (xG X) S P wB (it (dy_gr1 P) i x) := hP.kd (kd_it (dy_gr1_k _) _ _)
    have h20 : vp_in (nI i) 20 := vnI (Nat.lt_of_lt_of_le hi hr.nb) (by decide)
    generalize (it (dy_gr1 P) (i) x) = y at hw ih hP
    refine v_iload_n hX dX3_grow_2 rfl ?_
    refine v_aload_n hX dX3_grow_3 rfl ?_
    refine dv_get hX dX3_grow_4 hw 21 (by decide) q628 rfl ?_
    refine v_icmp_ge_f (tgt := 76) hX dX3_grow_7 rfl (ge_s hP.2.2.2.1 hi (Nat.le_trans hP.2.2.2.2 (by decide))) ?_
    refine v_aload_n hX dX3_grow_10 rfl ?_
    refine dv_get hX dX3_grow_11 hw 0 (by decide) q591 rfl ?_
    refine v_iload_n hX dX3_grow_14 rfl ?_
    refine dv_iald hX dX3_grow_15 hw (by decide) rfl rfl (h20) ?_
    refine v_iconst hX dX3_grow_16 ki2 ?_
    refine v_icmp_ne (tgt := 70) hX dX3_grow_17 rfl (fun c_17 => ?_) (fun c_17 => ?_)
    · refine v_iinc (lv' := [_, _, _]) hX dX3_grow_70 rfl ki1 rfl rfl ?_
      refine v_goto (tgt := 2) hX dX3_grow_73 rfl ?_
      refine V.no (lv' := [_, _, _]) 2 rfl ?_
      exact V.at rfl (by rw [nI_1]) rfl (ih w (hw.to (by first | (rw [dy_gr1, if_neg c_17]; done) | (rw [dy_gr1, if_neg c_17]; rfl))))
    · refine v_aload_n hX dX3_grow_20 rfl ?_
      refine dv_get hX dX3_grow_21 hw 9 (by decide) q608 rfl ?_
      refine v_iload_n hX dX3_grow_24 rfl ?_
      refine v_dup2 hX dX3_grow_25 rfl rfl ?_
      refine dv_iald hX dX3_grow_26 hw (by decide) rfl rfl (h20) ?_
      refine v_aload_n hX dX3_grow_27 rfl ?_
      refine dv_get hX dX3_grow_28 hw 11 (by decide) q612 rfl ?_
      refine v_iload_n hX dX3_grow_31 rfl ?_
      refine dv_zald hX dX3_grow_32 hw (by decide) rfl rfl (h20) ?_
      refine v_if_eq (tgt := 40) hX dX3_grow_33 rfl (fun c_33 => ?_) (fun c_33 => ?_)
      · refine v_aload_n hX dX3_grow_40 rfl ?_
        refine v_iconst hX dX3_grow_41 ki4 ?_
        refine dv_callR hX rfl dX3_grow_42 q774 cf_X3_setting hw (mX3_setting hg hw hP _ (vin (by decide))) rfl ⟨rfl, rfl⟩ ⟨Nat.le_of_ble_eq_true rfl, Nat.le_of_ble_eq_true rfl⟩ rfl (Nat.le_of_ble_eq_true rfl) ⟨Nat.le_of_ble_eq_true rfl, Nat.le_of_ble_eq_true rfl⟩ ?_
        refine v_iadd hX dX3_grow_45 ?_
        refine dv_iast hX dX3_grow_46 hw (by decide) rfl rfl (h20) (fun w hw => ?_)
        refine v_aload_n hX dX3_grow_47 rfl ?_
        refine dv_get hX dX3_grow_48 hw 8 (by decide) q606 rfl ?_
        refine v_iload_n hX dX3_grow_51 rfl ?_
        refine v_dup2 hX dX3_grow_52 rfl rfl ?_
        refine dv_iald hX dX3_grow_53 hw (by decide) rfl rfl (h20) ?_
        refine v_aload_n hX dX3_grow_54 rfl ?_
        refine dv_get hX dX3_grow_55 hw 11 (by decide) q612 rfl ?_
        refine v_iload_n hX dX3_grow_58 rfl ?_
        refine dv_zald hX dX3_grow_59 hw (by decide) rfl rfl (h20) ?_
        refine v_if_eq_t (tgt := 67) hX dX3_grow_60 rfl (c_33) ?_
        refine v_iconst hX dX3_grow_67 ki0 ?_
        refine v_iadd hX dX3_grow_68 ?_
        refine dv_iast hX dX3_grow_69 hw (by decide) rfl rfl (h20) (fun w hw => ?_)
        refine v_iinc (lv' := [_, _, _]) hX dX3_grow_70 rfl ki1 rfl rfl ?_
        refine v_goto (tgt := 2) hX dX3_grow_73 rfl ?_
        refine V.no (lv' := [_, _, _]) 2 rfl ?_
        exact V.at rfl (by rw [nI_1]) rfl (ih w (hw.to (by first | (rw [dy_gr1, if_pos c_17, if_pos c_33]; done) | (rw [dy_gr1, if_pos c_17, if_pos c_33]; rfl))))
      · refine v_iconst hX dX3_grow_36 ki1 ?_
        refine v_goto (tgt := 45) hX dX3_grow_37 rfl ?_
        refine v_iadd hX dX3_grow_45 ?_
        refine dv_iast hX dX3_grow_46 hw (by decide) rfl rfl (h20) (fun w hw => ?_)
        refine v_aload_n hX dX3_grow_47 rfl ?_
        refine dv_get hX dX3_grow_48 hw 8 (by decide) q606 rfl ?_
        refine v_iload_n hX dX3_grow_51 rfl ?_
        refine v_dup2 hX dX3_grow_52 rfl rfl ?_
        refine dv_iald hX dX3_grow_53 hw (by decide) rfl rfl (h20) ?_
        refine v_aload_n hX dX3_grow_54 rfl ?_
        refine dv_get hX dX3_grow_55 hw 11 (by decide) q612 rfl ?_
        refine v_iload_n hX dX3_grow_58 rfl ?_
        refine dv_zald hX dX3_grow_59 hw (by decide) rfl rfl (h20) ?_
        refine v_if_eq_f (tgt := 67) hX dX3_grow_60 rfl (c_33) ?_
        refine v_iconst hX dX3_grow_63 ki1 ?_
        refine v_goto (tgt := 68) hX dX3_grow_64 rfl ?_
        refine v_iadd hX dX3_grow_68 ?_
        refine dv_iast hX dX3_grow_69 hw (by decide) rfl rfl (h20) (fun w hw => ?_)
        refine v_iinc (lv' := [_, _, _]) hX dX3_grow_70 rfl ki1 rfl rfl ?_
        refine v_goto (tgt := 2) hX dX3_grow_73 rfl ?_
        refine V.no (lv' := [_, _, _]) 2 rfl ?_
        exact V.at rfl (by rw [nI_1]) rfl (ih w (hw.to (by first | (rw [dy_gr1, if_pos c_17, if_neg c_33]; done) | (rw [dy_gr1, if_pos c_17, if_neg c_33]; rfl))))
