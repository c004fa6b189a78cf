/-! the day: minute, begin, run -/
set_option maxRecDepth 100000
theorem ks200 : (Int16.ofInt (200)).toInt32 = 200 := by decide +kernel
theorem dy_end_k {S : Sh} {P : Pl} {t : Int32} {x : DS} : kD (dy_end S P t x) = kD x := (kd_it (dy_en2_k _ _ _) _ _).trans (kd_it (dy_en1_k _) _ _)
theorem dy_spo_k {S : Sh} {P : Pl} {t : Int32} {x : DS} : kD (dy_spo S P t x) = kD x := kd_it (dy_sp1_k _ _ _) _ _
theorem dy_res_k {S : Sh} {P : Pl} {x : DS} : kD (dy_res S P x) = kD x := kd_it (dy_rs1_k _ _) _ _
theorem dy_bak_k {S : Sh} {P : Pl} {t : Int32} {x : DS} : kD (dy_bak S P t x) = kD x := kd_it (dy_ba1_k _ _ _) _ _
theorem dy_she_k {S : Sh} {P : Pl} {x : DS} : kD (dy_she S P x) = kD x := it_keep (fun s : DS × Int32 => kD s.1) (dy_sh1_k S P) _ _
theorem dy_mix_k {S : Sh} {P : Pl} {t : Int32} {x : DS} : kD (dy_mix S P t x) = kD x := kd_it (dy_mx1_k _ _ _) _ _
theorem dy_gro_k {S : Sh} {P : Pl} {x : DS} : kD (dy_gro S P x) = kD x := (kd_it (dy_gd1_k _ _) _ _).trans (kd_it (dy_gr1_k _) _ _)
theorem dy_mnt_k {S : Sh} {P : Pl} {t : Int32} {x : DS} : kD (dy_mnt S P t x) = kD x := by
  unfold dy_mnt
  rw [dy_gro_k, dy_mix_k, dy_she_k, dy_bak_k, dy_res_k, dy_spo_k, dy_end_k]
theorem cf_X3_minute : CF RX3 yX3_minute cX3_minute 2 none 1 := ⟨q768, qs4, q144, q769, by decide +kernel⟩
theorem mX3_minute {Γ : Gm} {l : Launch} (hg : gC Γ) {G : Nat → Nat} {wB : Wd} {x : DS} {w : Wd} (hw : dW Γ G wB x w) {S : Sh} {P : Pl} (hP : dP Γ S P wB x) {nw t : Nat} {z : TS} (hr : R S P nw t x z) (ht : t < 1440) (ha : wB (x.2.1 23) = some (true, .inr (pC P.po, []))) : M0 Γ l yX3_minute (ws_ yX3_minute cX3_minute 2 none) (rl 9 0 0) 0 0 [.ref (G 19), .int (nI t)] w (fun r9 w9 => r9 = none ∧ dW Γ G wB (dy_mnt S P (nI t) x) w9) := by
  refine M0.of (lv := [some (.ref (G 19)), some (.int (nI t))]) (by decide) (Nat.le_of_ble_eq_true rfl) 0 rfl rfl ?_
  intro X hX hR hl hG hnm
  subst hl; subst hG
  refine v_aload_n hX dX3_minute_0 rfl ?_
  refine v_iload_n hX dX3_minute_1 rfl ?_
  refine dv_call0 hX rfl dX3_minute_2 q770 cf_X3_end hw (mX3_end hg hw hP hr ht) rfl ⟨rfl, rfl⟩ ⟨Nat.le_of_ble_eq_true rfl, Nat.le_of_ble_eq_true rfl⟩ rfl (Nat.le_of_ble_eq_true rfl) ⟨Nat.le_of_ble_eq_true rfl, Nat.le_of_ble_eq_true rfl⟩ (fun w hw => ?_)
  have hP : dP (xG X) S P wB (dy_end S P (nI t) x) := hP.kd dy_end_k
  have hr := R_end hr ht
  refine v_aload_n hX dX3_minute_5 rfl ?_
  refine v_iload_n hX dX3_minute_6 rfl ?_
  refine dv_call0 hX rfl dX3_minute_7 q802 cf_X3_spoil hw (mX3_spoil hg hw hP hr) rfl ⟨rfl, rfl⟩ ⟨Nat.le_of_ble_eq_true rfl, Nat.le_of_ble_eq_true rfl⟩ rfl (Nat.le_of_ble_eq_true rfl) ⟨Nat.le_of_ble_eq_true rfl, Nat.le_of_ble_eq_true rfl⟩ (fun w hw => ?_)
  have hP : dP (xG X) S P wB (dy_spo S P (nI t) (dy_end S P (nI t) x)) := hP.kd dy_spo_k
  have hr := R_spo (t := nI t) hr
  refine v_aload_n hX dX3_minute_10 rfl ?_
  refine dv_call0 hX rfl dX3_minute_11 q814 cf_X3_reserve hw (mX3_reserve hg hw hP hr (Nat.le_of_lt ht) (by rw [kD_1 dy_spo_k, kD_1 dy_end_k]; exact ha)) rfl ⟨rfl, rfl⟩ ⟨Nat.le_of_ble_eq_true rfl, Nat.le_of_ble_eq_true rfl⟩ rfl (Nat.le_of_ble_eq_true rfl) ⟨Nat.le_of_ble_eq_true rfl, Nat.le_of_ble_eq_true rfl⟩ (fun w hw => ?_)
  have hP : dP (xG X) S P wB (dy_res S P (dy_spo S P (nI t) (dy_end S P (nI t) x))) := hP.kd dy_res_k
  have hr := R_res hr (Nat.le_of_lt ht)
  refine v_aload_n hX dX3_minute_14 rfl ?_
  refine v_iload_n hX dX3_minute_15 rfl ?_
  refine dv_call0 hX rfl dX3_minute_16 q868 cf_X3_bake hw (mX3_bake hg hw hP hr (Nat.le_of_lt ht) ht) rfl ⟨rfl, rfl⟩ ⟨Nat.le_of_ble_eq_true rfl, Nat.le_of_ble_eq_true rfl⟩ rfl (Nat.le_of_ble_eq_true rfl) ⟨Nat.le_of_ble_eq_true rfl, Nat.le_of_ble_eq_true rfl⟩ (fun w hw => ?_)
  have hP : dP (xG X) S P wB (dy_bak S P (nI t) (dy_res S P (dy_spo S P (nI t) (dy_end S P (nI t) x)))) := hP.kd dy_bak_k
  have hr := R_bak hr (Nat.le_of_lt ht) ht
  refine v_aload_n hX dX3_minute_19 rfl ?_
  refine dv_call0 hX rfl dX3_minute_20 q872 cf_X3_shelve hw (mX3_shelve hg hw hP hr) rfl ⟨rfl, rfl⟩ ⟨Nat.le_of_ble_eq_true rfl, Nat.le_of_ble_eq_true rfl⟩ rfl (Nat.le_of_ble_eq_true rfl) ⟨Nat.le_of_ble_eq_true rfl, Nat.le_of_ble_eq_true rfl⟩ (fun w hw => ?_)
  have hP : dP (xG X) S P wB (dy_she S P (dy_bak S P (nI t) (dy_res S P (dy_spo S P (nI t) (dy_end S P (nI t) x))))) := hP.kd dy_she_k
  have hr := R_she hr (Nat.le_of_lt ht)
  refine v_aload_n hX dX3_minute_23 rfl ?_
  refine v_iload_n hX dX3_minute_24 rfl ?_
  refine dv_call0 hX rfl dX3_minute_25 q880 cf_X3_mix hw (mX3_mix hg hw hP hr ht) rfl ⟨rfl, rfl⟩ ⟨Nat.le_of_ble_eq_true rfl, Nat.le_of_ble_eq_true rfl⟩ rfl (Nat.le_of_ble_eq_true rfl) ⟨Nat.le_of_ble_eq_true rfl, Nat.le_of_ble_eq_true rfl⟩ (fun w hw => ?_)
  have hP : dP (xG X) S P wB (dy_mix S P (nI t) (dy_she S P (dy_bak S P (nI t) (dy_res S P (dy_spo S P (nI t) (dy_end S P (nI t) x)))))) := hP.kd dy_mix_k
  have hr := R_mix hr ht
  refine v_aload_n hX dX3_minute_28 rfl ?_
  refine dv_call0 hX rfl dX3_minute_29 q890 cf_X3_grow hw (mX3_grow hg hw hP hr) rfl ⟨rfl, rfl⟩ ⟨Nat.le_of_ble_eq_true rfl, Nat.le_of_ble_eq_true rfl⟩ rfl (Nat.le_of_ble_eq_true rfl) ⟨Nat.le_of_ble_eq_true rfl, Nat.le_of_ble_eq_true rfl⟩ (fun w hw => ?_)
  exact v_vret hX dX3_minute_32 hR (Nat.le_of_ble_eq_true rfl) (Nat.le_of_ble_eq_true rfl) (⟨rfl, hw⟩)
theorem dW.new {Γ : Gm} {G : Nat → Nat} {wB : Wd} {x : DS} {w : Wd} {q : Nat} {c : Bool × va_E} (h : dW Γ G wB x w) (hq : w q = none) : wB q = none ∧ dW Γ G (wup wB q c) x (wup w q c) := by
  have hn : ∀ j, j < 20 → G j ≠ q := by
    intro j hj e
    by_cases e19 : j = 19
    · subst e19; rw [← e, h.1] at hq; cases hq
    · rw [← e, h.2.1 j (by omega)] at hq; cases hq
  refine ⟨by rw [← h.2.2.1 q (fun j hj e => hn j hj e.symm)]; exact hq, ?_, fun j hj => ?_, fun a ha => ?_, h.2.2.2.1, fun j hj => ?_⟩
  · rw [wup_n (hn 19 (by decide))]; exact h.1
  · rw [wup_n (hn j (by omega))]; exact h.2.1 j hj
  · by_cases e : a = q
    · subst e; rw [wup_s, wup_s]
    · rw [wup_n e, wup_n e]; exact h.2.2.1 a ha
  · rw [wup_n (hn j hj)]; exact h.2.2.2.2 j hj
theorem shR.new {Γ : Gm} {S : Sh} {w : Wd} {q : Nat} {c : Bool × va_E} (h : shR Γ S w) (hq : w q = none) : shR Γ S (wup w q c) := h.fr (fun a ha => by
  obtain ⟨r, e⟩ := h.has ha
  exact wup_n (wne e hq))
theorem plO.new {Γ : Gm} {S : Sh} {P : Pl} {p : Nat} {w : Wd} {q : Nat} {c : Bool × va_E} (h : plO Γ S p P w) (hq : w q = none) : plO Γ S p P (wup w q c) := h.fr (fun a ha => by
  obtain ⟨r, e⟩ := h.has ha
  exact wup_n (wne e hq))
theorem dy_bg1_k (i : Nat) (y : DS) : kD (dy_bg1 i y) = kD y := rfl
theorem kD_2 {x y : DS} (e : kD y = kD x) : y.1 21 = x.1 21 := congrArg (fun q : (Nat → Nat) × Int32 => q.2) e
theorem cf_X3_begin : CF RX3 yX3_begin cX3_begin 3 none 1 := ⟨q759, qs2, q144, q760, by decide +kernel⟩
theorem mX3_begin {Γ : Gm} {l : Launch} (hg : gC Γ) {G : Nat → Nat} {wB : Wd} {x : DS} {w : Wd} (hw : dW Γ G wB x w) {S : Sh} {P : Pl} {p : Nat} (hS : shR Γ S wB) (hO : plO Γ S p P wB) : M0 Γ l yX3_begin (ws_ yX3_begin cX3_begin 3 none) (rl 3 1 0) 1 0 [.ref (G 19), .ref p] w (fun r9 w9 => r9 = none ∧ ∃ q, wB q = none ∧ dW Γ G (wup wB q (true, .inr (pC P.po, []))) (dy_beg P p q x) w9) := by
  refine M0.of (lv := [some (.ref (G 19)), some (.ref p), none]) (by decide) (Nat.le_of_ble_eq_true rfl) 1 rfl rfl ?_
  intro X hX hR hl hG hnm
  subst hl; subst hG
  have h20 := hO.2.2.2.2.1
  refine v_aload_n hX dX3_begin_0 rfl ?_
  refine v_aload_n hX dX3_begin_1 rfl ?_
  refine dv_putR hX dX3_begin_2 hw 22 (by decide) q629 rfl rfl rfl rfl (fun w hw => ?_)
  refine v_aload_n hX dX3_begin_5 rfl ?_
  refine v_aload_n hX dX3_begin_6 rfl ?_
  refine v_getM hX dX3_begin_7 hg in_X2 cl_2 5 (by decide) q542 (fun _ h => h) (hO.day hw).1 rfl ?_
  refine v_cS hX rfl dX3_begin_10 q566 c2_X4_numbered (m3_numbered hg P.po) rfl ⟨rfl, rfl⟩ ⟨Nat.le_of_ble_eq_true rfl, Nat.le_of_ble_eq_true rfl⟩ rfl (Nat.le_of_ble_eq_true rfl) ⟨Nat.le_of_ble_eq_true rfl, Nat.le_of_ble_eq_true rfl⟩ (fun v w1 h => ?_)
  obtain ⟨q, hq, rfl, rfl⟩ := h
  obtain ⟨hqB, hw⟩ := hw.new (c := (true, .inr (pC P.po, []))) hq
  have hS := hS.new (c := (true, .inr (pC P.po, []))) hqB
  have hO := hO.new (c := (true, .inr (pC P.po, []))) hqB
  refine V.at rfl rfl (st2 := .ref q :: _ :: _) rfl ?_
  refine dv_putR hX dX3_begin_13 hw 23 (by decide) q631 rfl rfl rfl rfl (fun w hw => ?_)
  refine v_aload_n hX dX3_begin_16 rfl ?_
  refine v_aload_n hX dX3_begin_17 rfl ?_
  refine v_getM hX dX3_begin_18 hg in_X2 cl_2 3 (by decide) q536 (fun _ h => h) (hO.day hw).1 rfl ?_
  refine v_cVe hX rfl dX3_begin_21 q761 c2_J2_size q731 rfl cl_11 (hO.day hw).2.2.1 (m2_J2_size (hO.day hw).2.2.1) rfl ⟨rfl, rfl⟩ ⟨Nat.le_of_ble_eq_true rfl, Nat.le_of_ble_eq_true rfl⟩ rfl (Nat.le_of_ble_eq_true rfl) ⟨Nat.le_of_ble_eq_true rfl, Nat.le_of_ble_eq_true rfl⟩ ?_
  refine dv_putI hX dX3_begin_24 hw 21 (by decide) q628 rfl rfl rfl rfl (fun w hw => ?_)
  refine v_aload_n hX dX3_begin_27 rfl ?_
  refine v_iconst hX dX3_begin_28 ki0 ?_
  refine dv_putI hX dX3_begin_29 hw 19 (by decide) q624 rfl rfl rfl rfl (fun w hw => ?_)
  refine v_aload_n hX dX3_begin_32 rfl ?_
  refine v_iconst hX dX3_begin_33 ki0 ?_
  refine dv_putI hX dX3_begin_34 hw 20 (by decide) q626 rfl rfl rfl rfl (fun w hw => ?_)
  have hw : dW (xG X) G (wup wB q (true, .inr (pC P.po, []))) (dy_b0 P p q x) w := hw
  refine v_iconst hX dX3_begin_37 ki0 ?_
  refine v_istore_n (lv' := [_, _, _]) hX dX3_begin_38 (Nat.le_of_ble_eq_true rfl) rfl rfl ?_
  generalize hx0 : (dy_b0 P p q x) = x0 at hw
  have hc : x0.1 21 = nI P.nb := by rw [← hx0]; rfl
  refine loop_up (P.nb) (fun i => ∀ w, dW (xG X) G (wup wB q (true, .inr (pC P.po, []))) ((it (dy_bg1) (i) x0)) w → V X w (0 + 1) (0 + 0) 39 [some (.ref (G 19)), some (.ref p), some (.int (nI (i)))] []) ?_ ?_ 0 (Nat.zero_le _) w hw
  · intro w hw
    have hc : (it dy_bg1 P.nb x0).1 21 = nI P.nb := (kD_2 (kd_it dy_bg1_k _ _)).trans hc
    generalize hx1 : it dy_bg1 P.nb x0 = x1 at hw hc
    refine v_iload_n hX dX3_begin_39 rfl ?_
    refine v_aload_n hX dX3_begin_40 rfl ?_
    refine dv_get hX dX3_begin_41 hw 21 (by decide) q628 rfl ?_
    refine v_icmp_ge_t (tgt := 137) hX dX3_begin_44 rfl (ge_x hc rfl) ?_
    refine v_iconst hX dX3_begin_137 ki0 ?_
    refine v_istore_n (lv' := [_, _, _]) hX dX3_begin_138 (Nat.le_of_ble_eq_true rfl) rfl rfl ?_
    refine loop_up (3) (fun i => ∀ w, dW (xG X) G (wup wB q (true, .inr (pC P.po, []))) ((it (dy_bg2) (i) x1)) w → V X w (0 + 1) (0 + 0) 139 [some (.ref (G 19)), some (.ref p), some (.int (nI (i)))] []) ?_ ?_ 0 (Nat.zero_le _) w hw
    · intro w hw
      generalize hx2 : it dy_bg2 3 x1 = x2 at hw
      refine v_iload_n hX dX3_begin_139 rfl ?_
      refine v_iconst hX dX3_begin_140 ki3 ?_
      refine v_icmp_ge_t (tgt := 171) hX dX3_begin_141 rfl (by decide) ?_
      refine v_iconst hX dX3_begin_171 ki0 ?_
      refine v_istore_n (lv' := [_, _, _]) hX dX3_begin_172 (Nat.le_of_ble_eq_true rfl) rfl rfl ?_
      refine loop_up (4) (fun i => ∀ w, dW (xG X) G (wup wB q (true, .inr (pC P.po, []))) ((it (dy_bg3) (i) x2)) w → V X w (0 + 1) (0 + 0) 173 [some (.ref (G 19)), some (.ref p), some (.int (nI (i)))] []) ?_ ?_ 0 (Nat.zero_le _) w hw
      · intro w hw
        refine v_iload_n hX dX3_begin_173 rfl ?_
        refine v_iconst hX dX3_begin_174 ki4 ?_
        refine v_icmp_ge_t (tgt := 207) hX dX3_begin_175 rfl (by decide) ?_
        exact v_vret hX dX3_begin_207 hR (Nat.le_of_ble_eq_true rfl) (Nat.le_of_ble_eq_true rfl) (⟨rfl, q, hqB, by unfold dy_beg; rw [hx0, hx1, hx2]; exact hw⟩)
      · intro i hi ih w hw
        have ih : ∀ w, dW (xG X) G (wup wB q (true, .inr (pC P.po, []))) (((dy_bg3) i (it (dy_bg3) (i) x2))) w → V X w (0 + 1) (0 + 0) 173 [some (.ref (G 19)), some (.ref p), some (.int (nI (i + 1)))] [] := ih
        have hi4 : vp_in (nI i) 4 := vnI hi (by decide)
        generalize (it (dy_bg3) (i) x2) = y at hw ih
        refine v_iload_n hX dX3_begin_173 rfl ?_
        refine v_iconst hX dX3_begin_174 ki4 ?_
        refine v_icmp_ge_f (tgt := 207) hX dX3_begin_175 rfl (ge_s (N := 4) rfl hi (by decide)) ?_
        refine v_aload_n hX dX3_begin_178 rfl ?_
        refine dv_get hX dX3_begin_179 hw 16 (by decide) q618 rfl ?_
        refine v_iload_n hX dX3_begin_182 rfl ?_
        refine v_iconst hX dX3_begin_183 kim1 ?_
        refine dv_iast hX dX3_begin_184 hw (by decide) rfl rfl (hi4) (fun w hw => ?_)
        refine v_aload_n hX dX3_begin_185 rfl ?_
        refine dv_get hX dX3_begin_186 hw 17 (by decide) q620 rfl ?_
        refine v_iload_n hX dX3_begin_189 rfl ?_
        refine v_sipush hX dX3_begin_190 ks200 ?_
        refine dv_iast hX dX3_begin_193 hw (by decide) rfl rfl (hi4) (fun w hw => ?_)
        refine v_aload_n hX dX3_begin_194 rfl ?_
        refine dv_get hX dX3_begin_195 hw 18 (by decide) q622 rfl ?_
        refine v_iload_n hX dX3_begin_198 rfl ?_
        refine v_iconst hX dX3_begin_199 ki0 ?_
        refine dv_iast hX dX3_begin_200 hw (by decide) rfl rfl (hi4) (fun w hw => ?_)
        refine v_iinc (lv' := [_, _, _]) hX dX3_begin_201 rfl ki1 rfl rfl ?_
        refine v_goto (tgt := 173) hX dX3_begin_204 rfl ?_
        exact V.at rfl (by rw [nI_1]) rfl (ih w hw)
    · intro i hi ih w hw
      have ih : ∀ w, dW (xG X) G (wup wB q (true, .inr (pC P.po, []))) (((dy_bg2) i (it (dy_bg2) (i) x1))) w → V X w (0 + 1) (0 + 0) 139 [some (.ref (G 19)), some (.ref p), some (.int (nI (i + 1)))] [] := ih
      have hi3 : vp_in (nI i) 3 := vnI hi (by decide)
      generalize (it (dy_bg2) (i) x1) = y at hw ih
      refine v_iload_n hX dX3_begin_139 rfl ?_
      refine v_iconst hX dX3_begin_140 ki3 ?_
      refine v_icmp_ge_f (tgt := 171) hX dX3_begin_141 rfl (ge_s (N := 3) rfl hi (by decide)) ?_
      refine v_aload_n hX dX3_begin_144 rfl ?_
      refine dv_get hX dX3_begin_145 hw 12 (by decide) q613 rfl ?_
      refine v_iload_n hX dX3_begin_148 rfl ?_
      refine v_iconst hX dX3_begin_149 kim1 ?_
      refine dv_iast hX dX3_begin_150 hw (by decide) rfl rfl (hi3) (fun w hw => ?_)
      refine v_aload_n hX dX3_begin_151 rfl ?_
      refine dv_get hX dX3_begin_152 hw 14 (by decide) q615 rfl ?_
      refine v_iload_n hX dX3_begin_155 rfl ?_
      refine v_iconst hX dX3_begin_156 kim1 ?_
      refine dv_iast hX dX3_begin_157 hw (by decide) rfl rfl (hi3) (fun w hw => ?_)
      refine v_aload_n hX dX3_begin_158 rfl ?_
      refine dv_get hX dX3_begin_159 hw 15 (by decide) q616 rfl ?_
      refine v_iload_n hX dX3_begin_162 rfl ?_
      refine v_iconst hX dX3_begin_163 ki0 ?_
      refine dv_iast hX dX3_begin_164 hw (by decide) rfl rfl (hi3) (fun w hw => ?_)
      refine v_iinc (lv' := [_, _, _]) hX dX3_begin_165 rfl ki1 rfl rfl ?_
      refine v_goto (tgt := 139) hX dX3_begin_168 rfl ?_
      exact V.at rfl (by rw [nI_1]) rfl (ih w hw)
  · intro i hi ih w hw
    have ih : ∀ w, dW (xG X) G (wup wB q (true, .inr (pC P.po, []))) (((dy_bg1) i (it (dy_bg1) (i) x0))) w → V X w (0 + 1) (0 + 0) 39 [some (.ref (G 19)), some (.ref p), some (.int (nI (i + 1)))] [] := ih
    have hc : (it dy_bg1 i x0).1 21 = nI P.nb := (kD_2 (kd_it dy_bg1_k _ _)).trans hc
    have hi20 : vp_in (nI i) 20 := vnI (Nat.lt_of_lt_of_le hi h20) (by decide)
    generalize (it (dy_bg1) (i) x0) = y at hw ih hc
    refine v_iload_n hX dX3_begin_39 rfl ?_
    refine v_aload_n hX dX3_begin_40 rfl ?_
    refine dv_get hX dX3_begin_41 hw 21 (by decide) q628 rfl ?_
    refine v_icmp_ge_f (tgt := 137) hX dX3_begin_44 rfl (ge_s hc hi (Nat.le_trans h20 (by decide))) ?_
    refine v_aload_n hX dX3_begin_47 rfl ?_
    refine dv_get hX dX3_begin_48 hw 0 (by decide) q591 rfl ?_
    refine v_iload_n hX dX3_begin_51 rfl ?_
    refine v_iconst hX dX3_begin_52 ki0 ?_
    refine dv_iast hX dX3_begin_53 hw (by decide) rfl rfl (hi20) (fun w hw => ?_)
    refine v_aload_n hX dX3_begin_54 rfl ?_
    refine dv_get hX dX3_begin_55 hw 1 (by decide) q592 rfl ?_
    refine v_iload_n hX dX3_begin_58 rfl ?_
    refine v_iconst hX dX3_begin_59 kim1 ?_
    refine dv_iast hX dX3_begin_60 hw (by decide) rfl rfl (hi20) (fun w hw => ?_)
    refine v_aload_n hX dX3_begin_61 rfl ?_
    refine dv_get hX dX3_begin_62 hw 2 (by decide) q594 rfl ?_
    refine v_iload_n hX dX3_begin_65 rfl ?_
    refine v_iconst hX dX3_begin_66 kim1 ?_
    refine dv_iast hX dX3_begin_67 hw (by decide) rfl rfl (hi20) (fun w hw => ?_)
    refine v_aload_n hX dX3_begin_68 rfl ?_
    refine dv_get hX dX3_begin_69 hw 3 (by decide) q596 rfl ?_
    refine v_iload_n hX dX3_begin_72 rfl ?_
    refine v_iconst hX dX3_begin_73 kim1 ?_
    refine dv_iast hX dX3_begin_74 hw (by decide) rfl rfl (hi20) (fun w hw => ?_)
    refine v_aload_n hX dX3_begin_75 rfl ?_
    refine dv_get hX dX3_begin_76 hw 4 (by decide) q598 rfl ?_
    refine v_iload_n hX dX3_begin_79 rfl ?_
    refine v_iconst hX dX3_begin_80 kim1 ?_
    refine dv_iast hX dX3_begin_81 hw (by decide) rfl rfl (hi20) (fun w hw => ?_)
    refine v_aload_n hX dX3_begin_82 rfl ?_
    refine dv_get hX dX3_begin_83 hw 5 (by decide) q600 rfl ?_
    refine v_iload_n hX dX3_begin_86 rfl ?_
    refine v_iconst hX dX3_begin_87 kim1 ?_
    refine dv_iast hX dX3_begin_88 hw (by decide) rfl rfl (hi20) (fun w hw => ?_)
    refine v_aload_n hX dX3_begin_89 rfl ?_
    refine dv_get hX dX3_begin_90 hw 6 (by decide) q602 rfl ?_
    refine v_iload_n hX dX3_begin_93 rfl ?_
    refine v_iconst hX dX3_begin_94 kim1 ?_
    refine dv_iast hX dX3_begin_95 hw (by decide) rfl rfl (hi20) (fun w hw => ?_)
    refine v_aload_n hX dX3_begin_96 rfl ?_
    refine dv_get hX dX3_begin_97 hw 7 (by decide) q604 rfl ?_
    refine v_iload_n hX dX3_begin_100 rfl ?_
    refine v_iconst hX dX3_begin_101 kim1 ?_
    refine dv_iast hX dX3_begin_102 hw (by decide) rfl rfl (hi20) (fun w hw => ?_)
    refine v_aload_n hX dX3_begin_103 rfl ?_
    refine dv_get hX dX3_begin_104 hw 8 (by decide) q606 rfl ?_
    refine v_iload_n hX dX3_begin_107 rfl ?_
    refine v_iconst hX dX3_begin_108 ki0 ?_
    refine dv_iast hX dX3_begin_109 hw (by decide) rfl rfl (hi20) (fun w hw => ?_)
    refine v_aload_n hX dX3_begin_110 rfl ?_
    refine dv_get hX dX3_begin_111 hw 9 (by decide) q608 rfl ?_
    refine v_iload_n hX dX3_begin_114 rfl ?_
    refine v_iconst hX dX3_begin_115 ki0 ?_
    refine dv_iast hX dX3_begin_116 hw (by decide) rfl rfl (hi20) (fun w hw => ?_)
    refine v_aload_n hX dX3_begin_117 rfl ?_
    refine dv_get hX dX3_begin_118 hw 10 (by decide) q610 rfl ?_
    refine v_iload_n hX dX3_begin_121 rfl ?_
    refine v_iconst hX dX3_begin_122 kim1 ?_
    refine dv_iast hX dX3_begin_123 hw (by decide) rfl rfl (hi20) (fun w hw => ?_)
    refine v_aload_n hX dX3_begin_124 rfl ?_
    refine dv_get hX dX3_begin_125 hw 11 (by decide) q612 rfl ?_
    refine v_iload_n hX dX3_begin_128 rfl ?_
    refine v_iconst hX dX3_begin_129 ki0 ?_
    refine dv_zast hX dX3_begin_130 hw (by decide) rfl rfl (hi20) (fun w hw => ?_)
    refine v_iinc (lv' := [_, _, _]) hX dX3_begin_131 rfl ki1 rfl rfl ?_
    refine v_goto (tgt := 39) hX dX3_begin_134 rfl ?_
    exact V.at rfl (by rw [nI_1]) rfl (ih w hw)
