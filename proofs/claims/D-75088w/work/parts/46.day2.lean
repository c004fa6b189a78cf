/-! the day: small methods -/
set_option maxRecDepth 100000
theorem cf_X3_setting : CF RX3 yX3_setting cX3_setting 2 (some .int) 1 := ⟨q776, qs6, q144, q777, by decide +kernel⟩
theorem mX3_setting {Γ : Gm} {l : Launch} (hg : gC Γ) {G : Nat → Nat} {wB : Wd} {x : DS} {w : Wd} (hw : dW Γ G wB x w) {S : Sh} {P : Pl} (hP : dP Γ S P wB x) (i : Int32) (hi : vp_in i 7) : MRd Γ l yX3_setting (ws_ yX3_setting cX3_setting 2 (some .int)) (rl 0 0 0) [.ref (G 19), .int i] w (.int (pS P i)) := by
  refine M0.of (lv := [some (.ref (G 19)), some (.int i)]) (by decide) (Nat.le_of_ble_eq_true rfl) 0 rfl rfl ?_
  intro X hX hR hl hG hnm
  subst hl; subst hG
  refine v_aload_n hX dX3_setting_0 rfl ?_
  refine dv_get hX dX3_setting_1 hw 22 (by decide) q629 rfl ?_
  refine v_getM hX dX3_setting_4 hg in_X2 cl_2 2 (by decide) q531 (fun _ h => h) (hP.2.1.day hw).1 rfl ?_
  refine v_iload_n hX dX3_setting_7 rfl ?_
  refine v_iald hX dX3_setting_8 (hP.2.1.day hw).2.1 (hi) ?_
  exact v_iret hX dX3_setting_9 hR (Nat.le_of_ble_eq_true rfl) (Nat.le_of_ble_eq_true rfl) (⟨rfl, rfl⟩)
theorem c2_X3_up : CS yX3_up cX3_up 2 (some .int) 2 := ⟨q828, q144, q829, by decide +kernel⟩
theorem mX3_up {Γ : Gm} {l : Launch} {w : Wd} (a b : Int32) (hb : ¬ b = 0) : MRd Γ l yX3_up (ws_ yX3_up cX3_up 2 (some .int)) (rl 0 0 0) [.int a, .int b] w (.int ((a + b - 1) / b)) := by
  refine M0.of (lv := [some (.int a), some (.int b)]) (by decide) (Nat.le_of_ble_eq_true rfl) 0 rfl rfl ?_
  intro X hX hR hl hG hnm
  subst hl; subst hG
  refine v_iload_n hX dX3_up_0 rfl ?_
  refine v_iload_n hX dX3_up_1 rfl ?_
  refine v_iadd hX dX3_up_2 ?_
  refine v_iconst hX dX3_up_3 ki1 ?_
  refine v_isub hX dX3_up_4 ?_
  refine v_iload_n hX dX3_up_5 rfl ?_
  refine v_idiv hX dX3_up_6 (hb) ?_
  exact v_iret hX dX3_up_7 hR (Nat.le_of_ble_eq_true rfl) (Nat.le_of_ble_eq_true rfl) (⟨rfl, rfl⟩)
/-- ripe, oldest -/
abbrev dy_ripe (S : Sh) (P : Pl) (b : Int32) : Int32 := pS P 4 * (pX S P b).2.2.2.1
abbrev dy_old (S : Sh) (P : Pl) (b : Int32) : Int32 := dy_ripe S P b + pS P 4 * (pX S P b).2.2.2.2.1
theorem cf_X3_ripe : CF RX3 yX3_ripe cX3_ripe 2 (some .int) 1 := ⟨q811, q812, q144, q813, by decide +kernel⟩
theorem mX3_ripe {Γ : Gm} {l : Launch} (hg : gC Γ) {G : Nat → Nat} {wB : Wd} {x : DS} {w : Wd} (hw : dW Γ G wB x w) {S : Sh} {P : Pl} (hP : dP Γ S P wB x) (b : Int32) (hb : vp_in b P.nb) : MRd Γ l yX3_ripe (ws_ yX3_ripe cX3_ripe 2 (some .int)) (rl 4 0 0) [.ref (G 19), .int b] w (.int (dy_ripe S P b)) := by
  refine M0.of (lv := [some (.ref (G 19)), some (.int b)]) (by decide) (Nat.le_of_ble_eq_true rfl) 0 rfl rfl ?_
  intro X hX hR hl hG hnm
  subst hl; subst hG
  refine v_aload_n hX dX3_ripe_0 rfl ?_
  refine v_iconst hX dX3_ripe_1 ki4 ?_
  refine dv_callR hX rfl dX3_ripe_2 q774 cf_X3_setting hw (mX3_setting hg hw hP _ (vin (by decide))) rfl ⟨rfl, rfl⟩ ⟨Nat.le_of_ble_eq_true rfl, Nat.le_of_ble_eq_true rfl⟩ rfl (Nat.le_of_ble_eq_true rfl) ⟨Nat.le_of_ble_eq_true rfl, Nat.le_of_ble_eq_true rfl⟩ ?_
  refine v_aload_n hX dX3_ripe_5 rfl ?_
  refine dv_get hX dX3_ripe_6 hw 22 (by decide) q629 rfl ?_
  refine v_iload_n hX dX3_ripe_9 rfl ?_
  refine v_cVe hX rfl dX3_ripe_10 q782 c2_X2_productOf q784 rfl cl_2 (hP.2.1.day hw).1 (m3_productOf hg (hP.1.day hw) (hP.2.1.day hw) hP.2.2.1 _ (hb)) rfl ⟨rfl, rfl⟩ ⟨Nat.le_of_ble_eq_true rfl, Nat.le_of_ble_eq_true rfl⟩ rfl (Nat.le_of_ble_eq_true rfl) ⟨Nat.le_of_ble_eq_true rfl, Nat.le_of_ble_eq_true rfl⟩ ?_
  refine v_getM hX dX3_ripe_13 hg in_X11 cl_9 3 (by decide) q1370 (fun _ h => h) (plX_at (hP.1.day hw) hP.2.2.1 (hb)) rfl ?_
  refine v_imul hX dX3_ripe_16 ?_
  exact v_iret hX dX3_ripe_17 hR (Nat.le_of_ble_eq_true rfl) (Nat.le_of_ble_eq_true rfl) (⟨rfl, rfl⟩)
theorem cf_X3_oldest : CF RX3 yX3_oldest cX3_oldest 2 (some .int) 1 := ⟨q807, q808, q144, q809, by decide +kernel⟩
theorem mX3_oldest {Γ : Gm} {l : Launch} (hg : gC Γ) {G : Nat → Nat} {wB : Wd} {x : DS} {w : Wd} (hw : dW Γ G wB x w) {S : Sh} {P : Pl} (hP : dP Γ S P wB x) (b : Int32) (hb : vp_in b P.nb) : MRd Γ l yX3_oldest (ws_ yX3_oldest cX3_oldest 2 (some .int)) (rl 5 0 0) [.ref (G 19), .int b] w (.int (dy_old S P b)) := by
  refine M0.of (lv := [some (.ref (G 19)), some (.int b)]) (by decide) (Nat.le_of_ble_eq_true rfl) 0 rfl rfl ?_
  intro X hX hR hl hG hnm
  subst hl; subst hG
  refine v_aload_n hX dX3_oldest_0 rfl ?_
  refine v_iload_n hX dX3_oldest_1 rfl ?_
  refine dv_callR hX rfl dX3_oldest_2 q810 cf_X3_ripe hw (mX3_ripe hg hw hP _ hb) rfl ⟨rfl, rfl⟩ ⟨Nat.le_of_ble_eq_true rfl, Nat.le_of_ble_eq_true rfl⟩ rfl (Nat.le_of_ble_eq_true rfl) ⟨Nat.le_of_ble_eq_true rfl, Nat.le_of_ble_eq_true rfl⟩ ?_
  refine v_aload_n hX dX3_oldest_5 rfl ?_
  refine v_iconst hX dX3_oldest_6 ki4 ?_
  refine dv_callR hX rfl dX3_oldest_7 q774 cf_X3_setting hw (mX3_setting hg hw hP _ (vin (by decide))) rfl ⟨rfl, rfl⟩ ⟨Nat.le_of_ble_eq_true rfl, Nat.le_of_ble_eq_true rfl⟩ rfl (Nat.le_of_ble_eq_true rfl) ⟨Nat.le_of_ble_eq_true rfl, Nat.le_of_ble_eq_true rfl⟩ ?_
  refine v_aload_n hX dX3_oldest_10 rfl ?_
  refine dv_get hX dX3_oldest_11 hw 22 (by decide) q629 rfl ?_
  refine v_iload_n hX dX3_oldest_14 rfl ?_
  refine v_cVe hX rfl dX3_oldest_15 q782 c2_X2_productOf q784 rfl cl_2 (hP.2.1.day hw).1 (m3_productOf hg (hP.1.day hw) (hP.2.1.day hw) hP.2.2.1 _ (hb)) rfl ⟨rfl, rfl⟩ ⟨Nat.le_of_ble_eq_true rfl, Nat.le_of_ble_eq_true rfl⟩ rfl (Nat.le_of_ble_eq_true rfl) ⟨Nat.le_of_ble_eq_true rfl, Nat.le_of_ble_eq_true rfl⟩ ?_
  refine v_getM hX dX3_oldest_18 hg in_X11 cl_9 4 (by decide) q1372 (fun _ h => h) (plX_at (hP.1.day hw) hP.2.2.1 (hb)) rfl ?_
  refine v_imul hX dX3_oldest_21 ?_
  refine v_iadd hX dX3_oldest_22 ?_
  exact v_iret hX dX3_oldest_23 hR (Nat.le_of_ble_eq_true rfl) (Nat.le_of_ble_eq_true rfl) (⟨rfl, rfl⟩)
/-- deck d bakes -/
abbrev dy_bk (x : DS) (d : Int32) : Prop := ¬ eG x 16 d = -1 ∧ eG x 0 (eG x 16 d) = 3
theorem cf_X3_isBaking : CF RX3 yX3_isBaking cX3_isBaking 2 (some .boolean) 1 := ⟨q779, q780, q144, q781, by decide +kernel⟩
theorem mX3_isBaking {Γ : Gm} {l : Launch} (hg : gC Γ) {G : Nat → Nat} {wB : Wd} {x : DS} {w : Wd} (hw : dW Γ G wB x w) (d : Int32) (hd : vp_in d 4) (ht : eG x 16 d = -1 ∨ vp_in (eG x 16 d) 20) : MRd Γ l yX3_isBaking (ws_ yX3_isBaking cX3_isBaking 2 (some .boolean)) (rl 0 0 0) [.ref (G 19), .int d] w (.int (bi (dy_bk x d))) := by
  refine M0.of (lv := [some (.ref (G 19)), some (.int d)]) (by decide) (Nat.le_of_ble_eq_true rfl) 0 rfl rfl ?_
  intro X hX hR hl hG hnm
  subst hl; subst hG
  refine v_aload_n hX dX3_isBaking_0 rfl ?_
  refine dv_get hX dX3_isBaking_1 hw 16 (by decide) q618 rfl ?_
  refine v_iload_n hX dX3_isBaking_4 rfl ?_
  refine dv_iald hX dX3_isBaking_5 hw (by decide) rfl rfl (hd) ?_
  refine v_iconst hX dX3_isBaking_6 kim1 ?_
  refine v_icmp_eq (tgt := 29) hX dX3_isBaking_7 rfl (fun c_7 => ?_) (fun c_7 => ?_)
  · refine v_iconst hX dX3_isBaking_29 ki0 ?_
    exact v_zret hX dX3_isBaking_30 hR (Nat.le_of_ble_eq_true rfl) (Nat.le_of_ble_eq_true rfl) (rfl) (⟨by simp [bi, *], rfl⟩)
  · refine v_aload_n hX dX3_isBaking_10 rfl ?_
    refine dv_get hX dX3_isBaking_11 hw 0 (by decide) q591 rfl ?_
    refine v_aload_n hX dX3_isBaking_14 rfl ?_
    refine dv_get hX dX3_isBaking_15 hw 16 (by decide) q618 rfl ?_
    refine v_iload_n hX dX3_isBaking_18 rfl ?_
    refine dv_iald hX dX3_isBaking_19 hw (by decide) rfl rfl (hd) ?_
    refine dv_iald hX dX3_isBaking_20 hw (by decide) rfl rfl (ht.resolve_left c_7) ?_
    refine v_iconst hX dX3_isBaking_21 ki3 ?_
    refine v_icmp_ne (tgt := 29) hX dX3_isBaking_22 rfl (fun c_22 => ?_) (fun c_22 => ?_)
    · refine v_iconst hX dX3_isBaking_29 ki0 ?_
      exact v_zret hX dX3_isBaking_30 hR (Nat.le_of_ble_eq_true rfl) (Nat.le_of_ble_eq_true rfl) (rfl) (⟨by simp [bi, *], rfl⟩)
    · refine v_iconst hX dX3_isBaking_25 ki1 ?_
      refine v_goto (tgt := 30) hX dX3_isBaking_26 rfl ?_
      exact v_zret hX dX3_isBaking_30 hR (Nat.le_of_ble_eq_true rfl) (Nat.le_of_ble_eq_true rfl) (rfl) (⟨by simp [bi, *], rfl⟩)
/-- what comes of a batch; whether deck d may wait for it -/
def dy_state (S : Sh) (P : Pl) (x : DS) (b : Int32) : Int32 := if eG x 0 b = 5 then 3 else if eG x 6 b = -1 then 0 else if eG x 6 b + pS P 6 ≤ S.wf (P.bx b.toNatClampNeg).2.2.toNatClampNeg then 1 else 2
theorem dP.b20 {Γ : Gm} {S : Sh} {P : Pl} {wB : Wd} {x : DS} (hP : dP Γ S P wB x) {b : Int32} (hb : vp_in b P.nb) : vp_in b 20 := vmono hb hP.2.2.2.2
abbrev dy_abs (a : Int32) : Int32 := if 0 ≤ a then a else 0 - a
abbrev dy_max (a b : Int32) : Int32 := if a < b then b else a
abbrev dy_min (a b : Int32) : Int32 := if b < a then b else a
abbrev dy_can (S : Sh) (P : Pl) (x : DS) (d b : Int32) : Prop := (dy_max 0 (dy_ripe S P b - eG x 9 b) + pS P 4 - 1) / pS P 4 ≤ (dy_abs ((pX S P b).2.2.2.2.2.2 - eG x 17 d) + pS P 5 - 1) / pS P 5
theorem pOK.s4 {S : Sh} {P : Pl} (h : pOK S P) : ¬ pS P 4 = 0 := by
  show ¬ P.sf 4 = 0
  obtain ⟨-, -, -, ⟨e, h1, h2⟩, -⟩ := h
  rw [e]; exact nI_ne0 (by omega) (by omega)
theorem pOK.s5 {S : Sh} {P : Pl} (h : pOK S P) : ¬ pS P 5 = 0 := by
  show ¬ P.sf 5 = 0
  obtain ⟨-, -, -, -, e, h1, h2⟩ := h
  rw [e]; exact nI_ne0 (by omega) (by omega)
theorem cf_X3_state : CF RX3 yX3_state cX3_state 2 (some .int) 1 := ⟨q1053, q1054, q144, q1055, by decide +kernel⟩
theorem mX3_state {Γ : Gm} {l : Launch} (hg : gC Γ) {G : Nat → Nat} {wB : Wd} {x : DS} {w : Wd} (hw : dW Γ G wB x w) {S : Sh} {P : Pl} (hP : dP Γ S P wB x) (b : Int32) (hb : vp_in b P.nb) : MRd Γ l yX3_state (ws_ yX3_state cX3_state 2 (some .int)) (rl 3 0 0) [.ref (G 19), .int b] w (.int (dy_state S P x b)) := by
  refine M0.of (lv := [some (.ref (G 19)), some (.int b)]) (by decide) (Nat.le_of_ble_eq_true rfl) 0 rfl rfl ?_
  intro X hX hR hl hG hnm
  subst hl; subst hG
  have hb2 := hP.b20 hb
  refine v_aload_n hX dX3_state_0 rfl ?_
  refine dv_get hX dX3_state_1 hw 0 (by decide) q591 rfl ?_
  refine v_iload_n hX dX3_state_4 rfl ?_
  refine dv_iald hX dX3_state_5 hw (by decide) rfl rfl (hb2) ?_
  refine v_iconst hX dX3_state_6 ki5 ?_
  refine v_icmp_ne (tgt := 12) hX dX3_state_7 rfl (fun c_7 => ?_) (fun c_7 => ?_)
  · refine v_aload_n hX dX3_state_12 rfl ?_
    refine dv_get hX dX3_state_13 hw 6 (by decide) q602 rfl ?_
    refine v_iload_n hX dX3_state_16 rfl ?_
    refine dv_iald hX dX3_state_17 hw (by decide) rfl rfl (hb2) ?_
    refine v_iconst hX dX3_state_18 kim1 ?_
    refine v_icmp_ne (tgt := 24) hX dX3_state_19 rfl (fun c_19 => ?_) (fun c_19 => ?_)
    · refine v_aload_n hX dX3_state_24 rfl ?_
      refine dv_get hX dX3_state_25 hw 6 (by decide) q602 rfl ?_
      refine v_iload_n hX dX3_state_28 rfl ?_
      refine dv_iald hX dX3_state_29 hw (by decide) rfl rfl (hb2) ?_
      refine v_aload_n hX dX3_state_30 rfl ?_
      refine v_bipush hX dX3_state_31 kb6 ?_
      refine dv_callR hX rfl dX3_state_33 q774 cf_X3_setting hw (mX3_setting hg hw hP _ (vin (by decide))) rfl ⟨rfl, rfl⟩ ⟨Nat.le_of_ble_eq_true rfl, Nat.le_of_ble_eq_true rfl⟩ rfl (Nat.le_of_ble_eq_true rfl) ⟨Nat.le_of_ble_eq_true rfl, Nat.le_of_ble_eq_true rfl⟩ ?_
      refine v_iadd hX dX3_state_36 ?_
      refine v_aload_n hX dX3_state_37 rfl ?_
      refine dv_get hX dX3_state_38 hw 22 (by decide) q629 rfl ?_
      refine v_getM hX dX3_state_41 hg in_X2 cl_2 1 (by decide) q527 (fun _ h => h) (hP.2.1.day hw).1 rfl ?_
      refine v_aload_n hX dX3_state_44 rfl ?_
      refine dv_get hX dX3_state_45 hw 22 (by decide) q629 rfl ?_
      refine v_getM hX dX3_state_48 hg in_X2 cl_2 3 (by decide) q536 (fun _ h => h) (hP.2.1.day hw).1 rfl ?_
      refine v_iload_n hX dX3_state_51 rfl ?_
      refine v_cVe hX rfl dX3_state_52 q888 c2_J2_get q788 rfl cl_11 (hP.2.1.day hw).2.2.1 (m3_get (hP.2.1.day hw) _ (hb)) rfl ⟨rfl, rfl⟩ ⟨Nat.le_of_ble_eq_true rfl, Nat.le_of_ble_eq_true rfl⟩ rfl (Nat.le_of_ble_eq_true rfl) ⟨Nat.le_of_ble_eq_true rfl, Nat.le_of_ble_eq_true rfl⟩ ?_
      refine v_chk hX dX3_state_55 q889 cl_10 (plB_at (hP.2.1.day hw) (hb)) ?_
      refine v_getM hX dX3_state_58 hg in_X12 cl_10 2 (by decide) q981 (fun _ h => h) (plB_at (hP.2.1.day hw) (hb)) rfl ?_
      refine v_iald hX dX3_state_61 (hP.1.day hw).2.2.2.2 ((hP.2.2.1.1 _ (vlt hb)).2) ?_
      refine v_icmp_gt (tgt := 69) hX dX3_state_62 rfl (fun c_62 => ?_) (fun c_62 => ?_)
      · refine v_iconst hX dX3_state_69 ki2 ?_
        exact v_iret hX dX3_state_70 hR (Nat.le_of_ble_eq_true rfl) (Nat.le_of_ble_eq_true rfl) (⟨by simp [dy_state, *], rfl⟩)
      · refine v_iconst hX dX3_state_65 ki1 ?_
        refine v_goto (tgt := 70) hX dX3_state_66 rfl ?_
        exact v_iret hX dX3_state_70 hR (Nat.le_of_ble_eq_true rfl) (Nat.le_of_ble_eq_true rfl) (⟨by simp [dy_state, *], rfl⟩)
    · refine v_iconst hX dX3_state_22 ki0 ?_
      exact v_iret hX dX3_state_23 hR (Nat.le_of_ble_eq_true rfl) (Nat.le_of_ble_eq_true rfl) (⟨by simp [dy_state, *], rfl⟩)
  · refine v_iconst hX dX3_state_10 ki3 ?_
    exact v_iret hX dX3_state_11 hR (Nat.le_of_ble_eq_true rfl) (Nat.le_of_ble_eq_true rfl) (⟨by simp [dy_state, *], rfl⟩)
theorem cf_X3_canWait : CF RX3 yX3_canWait cX3_canWait 4 (some .boolean) 2 := ⟨q824, qs10, q144, q825, by decide +kernel⟩
theorem mX3_canWait {Γ : Gm} {l : Launch} (hg : gC Γ) {G : Nat → Nat} {wB : Wd} {x : DS} {w : Wd} (hw : dW Γ G wB x w) {S : Sh} {P : Pl} (hP : dP Γ S P wB x) (d b : Int32) (hd : vp_in d 4) (hb : vp_in b P.nb) : MRd Γ l yX3_canWait (ws_ yX3_canWait cX3_canWait 4 (some .boolean)) (rl 5 0 0) [.ref (G 19), .int d, .int b] w (.int (bi (dy_can S P x d b))) := by
  refine M0.of (lv := [some (.ref (G 19)), some (.int d), some (.int b), none]) (by decide) (Nat.le_of_ble_eq_true rfl) 1 rfl rfl ?_
  intro X hX hR hl hG hnm
  subst hl; subst hG
  refine v_iconst hX dX3_canWait_0 ki0 ?_
  refine v_aload_n hX dX3_canWait_1 rfl ?_
  refine v_iload_n hX dX3_canWait_2 rfl ?_
  refine dv_callR hX rfl dX3_canWait_3 q810 cf_X3_ripe hw (mX3_ripe hg hw hP _ hb) rfl ⟨rfl, rfl⟩ ⟨Nat.le_of_ble_eq_true rfl, Nat.le_of_ble_eq_true rfl⟩ rfl (Nat.le_of_ble_eq_true rfl) ⟨Nat.le_of_ble_eq_true rfl, Nat.le_of_ble_eq_true rfl⟩ ?_
  refine v_aload_n hX dX3_canWait_6 rfl ?_
  refine dv_get hX dX3_canWait_7 hw 9 (by decide) q608 rfl ?_
  refine v_iload_n hX dX3_canWait_10 rfl ?_
  refine dv_iald hX dX3_canWait_11 hw (by decide) rfl rfl (hP.b20 hb) ?_
  refine v_isub hX dX3_canWait_12 ?_
  refine v_mmax hX rfl dX3_canWait_13 q826 (Nat.le_of_ble_eq_true rfl) (Nat.le_of_ble_eq_true rfl) ⟨Nat.le_of_ble_eq_true rfl, Nat.le_of_ble_eq_true rfl⟩ ?_
  refine v_aload_n hX dX3_canWait_16 rfl ?_
  refine v_iconst hX dX3_canWait_17 ki4 ?_
  refine dv_callR hX rfl dX3_canWait_18 q774 cf_X3_setting hw (mX3_setting hg hw hP _ (vin (by decide))) rfl ⟨rfl, rfl⟩ ⟨Nat.le_of_ble_eq_true rfl, Nat.le_of_ble_eq_true rfl⟩ rfl (Nat.le_of_ble_eq_true rfl) ⟨Nat.le_of_ble_eq_true rfl, Nat.le_of_ble_eq_true rfl⟩ ?_
  refine v_cSe hX rfl dX3_canWait_21 q827 c2_X3_up (mX3_up _ _ hP.2.2.1.s4) rfl ⟨rfl, rfl⟩ ⟨Nat.le_of_ble_eq_true rfl, Nat.le_of_ble_eq_true rfl⟩ rfl (Nat.le_of_ble_eq_true rfl) ⟨Nat.le_of_ble_eq_true rfl, Nat.le_of_ble_eq_true rfl⟩ ?_
  refine v_istore_n (lv' := [_, _, _, _]) hX dX3_canWait_24 (Nat.le_of_ble_eq_true rfl) rfl rfl ?_
  refine v_iload_n hX dX3_canWait_25 rfl ?_
  refine v_aload_n hX dX3_canWait_26 rfl ?_
  refine dv_get hX dX3_canWait_27 hw 22 (by decide) q629 rfl ?_
  refine v_iload_n hX dX3_canWait_30 rfl ?_
  refine v_cVe hX rfl dX3_canWait_31 q782 c2_X2_productOf q784 rfl cl_2 (hP.2.1.day hw).1 (m3_productOf hg (hP.1.day hw) (hP.2.1.day hw) hP.2.2.1 _ (hb)) rfl ⟨rfl, rfl⟩ ⟨Nat.le_of_ble_eq_true rfl, Nat.le_of_ble_eq_true rfl⟩ rfl (Nat.le_of_ble_eq_true rfl) ⟨Nat.le_of_ble_eq_true rfl, Nat.le_of_ble_eq_true rfl⟩ ?_
  refine v_getM hX dX3_canWait_34 hg in_X11 cl_9 6 (by decide) q1376 (fun _ h => h) (plX_at (hP.1.day hw) hP.2.2.1 (hb)) rfl ?_
  refine v_aload_n hX dX3_canWait_37 rfl ?_
  refine dv_get hX dX3_canWait_38 hw 17 (by decide) q620 rfl ?_
  refine v_iload_n hX dX3_canWait_41 rfl ?_
  refine dv_iald hX dX3_canWait_42 hw (by decide) rfl rfl (hd) ?_
  refine v_isub hX dX3_canWait_43 ?_
  refine v_mabs hX rfl dX3_canWait_44 q830 (Nat.le_of_ble_eq_true rfl) (Nat.le_of_ble_eq_true rfl) ⟨Nat.le_of_ble_eq_true rfl, Nat.le_of_ble_eq_true rfl⟩ ?_
  refine v_aload_n hX dX3_canWait_47 rfl ?_
  refine v_iconst hX dX3_canWait_48 ki5 ?_
  refine dv_callR hX rfl dX3_canWait_49 q774 cf_X3_setting hw (mX3_setting hg hw hP _ (vin (by decide))) rfl ⟨rfl, rfl⟩ ⟨Nat.le_of_ble_eq_true rfl, Nat.le_of_ble_eq_true rfl⟩ rfl (Nat.le_of_ble_eq_true rfl) ⟨Nat.le_of_ble_eq_true rfl, Nat.le_of_ble_eq_true rfl⟩ ?_
  refine v_cSe hX rfl dX3_canWait_52 q827 c2_X3_up (mX3_up _ _ hP.2.2.1.s5) rfl ⟨rfl, rfl⟩ ⟨Nat.le_of_ble_eq_true rfl, Nat.le_of_ble_eq_true rfl⟩ rfl (Nat.le_of_ble_eq_true rfl) ⟨Nat.le_of_ble_eq_true rfl, Nat.le_of_ble_eq_true rfl⟩ ?_
  refine v_icmp_gt (tgt := 62) hX dX3_canWait_55 rfl (fun c_55 => ?_) (fun c_55 => ?_)
  · refine v_iconst hX dX3_canWait_62 ki0 ?_
    exact v_zret hX dX3_canWait_63 hR (Nat.le_of_ble_eq_true rfl) (Nat.le_of_ble_eq_true rfl) (rfl) (⟨by rw [show bi (dy_can S P x d b) = _ from bi_f (Int32.not_le.mpr c_55)], rfl⟩)
  · refine v_iconst hX dX3_canWait_58 ki1 ?_
    refine v_goto (tgt := 63) hX dX3_canWait_59 rfl ?_
    exact v_zret hX dX3_canWait_63 hR (Nat.le_of_ble_eq_true rfl) (Nat.le_of_ble_eq_true rfl) (rfl) (⟨by rw [show bi (dy_can S P x d b) = _ from bi_t (Int32.not_lt.mp c_55)], rfl⟩)
