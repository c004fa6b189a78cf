/-! the twin: better plans -/
noncomputable section
set_option maxRecDepth 100000
theorem nat_up (N : Nat) (P : Nat → Prop) (h0 : P 0) (h1 : ∀ n, n < N → P n → P (n + 1)) : P N := by
  have : ∀ n, n ≤ N → P n := by
    intro n
    induction n with
    | zero => intro _; exact h0
    | succ n ih => intro h; exact h1 n (by omega) (ih (by omega))
  exact this N (Nat.le_refl _)
def tw_nd (i : Int32) : Nat → Int32 → TS → Int32 × TS
  | 0, _, x => (-1, x)
  | n + 1, v, x => if 0 < tw_num (tw_lw i v x) 3 then tw_nd i n (v + 1) (tw_et (tw_lw i v x)) else (v, tw_et (tw_lw i v x))
def tw_need (i : Int32) (x : TS) : Int32 × TS := if i = 1 then tw_nd 1 4 1 (tw_z x) else if i = 2 then tw_nd 2 9 0 (tw_z x) else tw_f 1 x
theorem rOK.one {r : Nat → Int32} {v : Int32} {n : Nat} (h : rOK r) (e : v = nI n) (h1 : 1 ≤ n) (h2 : n ≤ 4) : rOK (upd r 1 v) := by rw [e]; exact h.set1 h1 h2
theorem cf_X8_needed : CF RX8 yX8_needed cX8_needed 3 (some .int) 1 := ⟨q2541, q2542, q150, q2543, by decide +kernel⟩
theorem mX8_needed {Γ : Gm} {l : Launch} {G : Nat → Nat} {wB : Wd} {x : TS} {w : Wd} (hw : tW Γ G wB x w) {r : Nat → Int32} (hI : tIr r x) (hk : rOK r) (i : Int32) : M0 Γ l yX8_needed (ws_ yX8_needed cX8_needed 3 (some .int)) (rl 10 0 0) 0 0 [.ref (G 61), .int i] w (fun r9 w9 => r9 = some (.int (tw_need i x).1) ∧ tW Γ G wB ((tw_need i x).2) w9) := by
  refine M0.of (lv := [some (.ref (G 61)), some (.int i), none]) (by decide) (Nat.le_of_ble_eq_true rfl) 1 rfl rfl ?_
  intro X hX hR hl hG hnm
  subst hl; subst hG
  refine v_aload_n hX dX8_needed_0 rfl ?_
  refine v_iconst hX dX8_needed_1 li0 ?_
  refine tv_putI hX dX8_needed_2 hw 0 (by decide) rfl q1909 rfl (by decide +kernel) (fun w hw => ?_)
  refine v_iload_n hX dX8_needed_5 rfl ?_
  refine v_iconst hX dX8_needed_6 li1 ?_
  refine v_icmp_eq (tgt := 21) hX dX8_needed_7 rfl (fun c_7 => ?_) (fun c_7 => ?_)
  · have hRes : tw_need i x = tw_nd 1 4 1 (tw_z x) := by rw [tw_need, if_pos c_7]
    generalize tw_need i x = R at hRes hR
    subst c_7
    refine v_iload_n hX dX8_needed_21 rfl ?_
    refine v_callSr hX rfl dX8_needed_22 q2219 cs_X8_least (mX8_least _) rfl ⟨rfl, rfl⟩ ⟨Nat.le_of_ble_eq_true rfl, Nat.le_of_ble_eq_true rfl⟩ rfl (Nat.le_of_ble_eq_true rfl) ⟨Nat.le_of_ble_eq_true rfl, Nat.le_of_ble_eq_true rfl⟩ ?_
    refine v_istore_n (lv' := [_, _, _]) hX dX8_needed_25 (Nat.le_of_ble_eq_true rfl) rfl rfl ?_
    refine nat_up (4) (fun n => ∀ (v : Int32) (x : TS) (w : Wd), tIr r x → tW (xG X) G wB x w → v = nI (5 - n) → R = tw_nd 1 (n) v x → V X w 0 0 26 [some (.ref (G 61)), some (.int 1), some (.int v)] []) ?_ ?_ _ _ _ hI.z hw rfl hRes
    · intro v x w hI hw hv hRes
      refine v_iload_n hX dX8_needed_26 rfl ?_
      refine v_iload_n hX dX8_needed_27 rfl ?_
      refine v_callSr hX rfl dX8_needed_28 q2222 cs_X8_greatest (mX8_greatest _) rfl ⟨rfl, rfl⟩ ⟨Nat.le_of_ble_eq_true rfl, Nat.le_of_ble_eq_true rfl⟩ rfl (Nat.le_of_ble_eq_true rfl) ⟨Nat.le_of_ble_eq_true rfl, Nat.le_of_ble_eq_true rfl⟩ ?_
      refine v_icmp_gt_t (tgt := 51) hX dX8_needed_31 rfl (by rw [hv]; decide) ?_
      refine v_iconst hX dX8_needed_51 lim1 ?_
      exact v_iret hX dX8_needed_52 hR (Nat.le_of_ble_eq_true rfl) (Nat.le_of_ble_eq_true rfl) (⟨by rw [hRes, tw_nd], hw.to (by rw [hRes, tw_nd])⟩)
    · intro n hn ih
      have ih : ∀ (v : Int32) (x : TS) (w : Wd), tIr r x → tW (xG X) G wB x w → v = nI (5 - n) → R = tw_nd 1 (n) v x → V X w 0 0 26 [some (.ref (G 61)), some (.int 1), some (.int v)] [] := ih
      intro v x w hI hw hv hRes
      refine v_iload_n hX dX8_needed_26 rfl ?_
      refine v_iload_n hX dX8_needed_27 rfl ?_
      refine v_callSr hX rfl dX8_needed_28 q2222 cs_X8_greatest (mX8_greatest _) rfl ⟨rfl, rfl⟩ ⟨Nat.le_of_ble_eq_true rfl, Nat.le_of_ble_eq_true rfl⟩ rfl (Nat.le_of_ble_eq_true rfl) ⟨Nat.le_of_ble_eq_true rfl, Nat.le_of_ble_eq_true rfl⟩ ?_
      refine v_icmp_gt_f (tgt := 51) hX dX8_needed_31 rfl (Int32.not_lt.mpr (by rw [hv, show tw_greatest 1 = nI 4 from by decide]; exact nI_le (by omega) (by omega))) ?_
      refine v_aload_n hX dX8_needed_34 rfl ?_
      refine v_iload_n hX dX8_needed_35 rfl ?_
      refine v_iload_n hX dX8_needed_36 rfl ?_
      refine tv_callV hX rfl dX8_needed_37 q2544 cf_X8_losesWith hw (mX8_losesWith hw hI 1 (by decide) _ (hk.one hv (by omega) (by omega)) (1 : Int32) rfl) rfl ⟨rfl, rfl⟩ ⟨Nat.le_of_ble_eq_true rfl, Nat.le_of_ble_eq_true rfl⟩ rfl (Nat.le_of_ble_eq_true rfl) ⟨Nat.le_of_ble_eq_true rfl, Nat.le_of_ble_eq_true rfl⟩ (fun w hw => ?_)
      refine v_ifb_ne (tgt := 45) hX dX8_needed_40 rfl (fun c_40 => ?_) (fun c_40 => ?_)
      · refine v_iinc (lv' := [_, _, _]) hX dX8_needed_45 rfl li1 rfl rfl ?_
        refine v_goto (tgt := 26) hX dX8_needed_48 rfl ?_
        exact ih _ _ _ (show tIr r (tw_et (tw_lw 1 v x)) from lw_I (i := 1) hI (by decide)) hw (by rw [hv, nI_1]; congr 1; omega) (hRes.trans (by rw [tw_nd, if_pos c_40]))
      · refine v_iload_n hX dX8_needed_43 rfl ?_
        exact v_iret hX dX8_needed_44 hR (Nat.le_of_ble_eq_true rfl) (Nat.le_of_ble_eq_true rfl) (⟨by rw [hRes, tw_nd, if_neg c_40], hw.to (by rw [hRes, tw_nd, if_neg c_40])⟩)
  · refine v_iload_n hX dX8_needed_10 rfl ?_
    refine v_iconst hX dX8_needed_11 li2 ?_
    refine v_icmp_eq (tgt := 21) hX dX8_needed_12 rfl (fun c_12 => ?_) (fun c_12 => ?_)
    · have hRes : tw_need i x = tw_nd 2 9 0 (tw_z x) := by rw [tw_need, if_neg c_7, if_pos c_12]
      generalize tw_need i x = R at hRes hR
      subst c_12
      refine v_iload_n hX dX8_needed_21 rfl ?_
      refine v_callSr hX rfl dX8_needed_22 q2219 cs_X8_least (mX8_least _) rfl ⟨rfl, rfl⟩ ⟨Nat.le_of_ble_eq_true rfl, Nat.le_of_ble_eq_true rfl⟩ rfl (Nat.le_of_ble_eq_true rfl) ⟨Nat.le_of_ble_eq_true rfl, Nat.le_of_ble_eq_true rfl⟩ ?_
      refine v_istore_n (lv' := [_, _, _]) hX dX8_needed_25 (Nat.le_of_ble_eq_true rfl) rfl rfl ?_
      refine nat_up (9) (fun n => ∀ (v : Int32) (x : TS) (w : Wd), tIr r x → tW (xG X) G wB x w → v = nI (9 - n) → R = tw_nd 2 (n) v x → V X w 0 0 26 [some (.ref (G 61)), some (.int 2), some (.int v)] []) ?_ ?_ _ _ _ hI.z hw rfl hRes
      · intro v x w hI hw hv hRes
        refine v_iload_n hX dX8_needed_26 rfl ?_
        refine v_iload_n hX dX8_needed_27 rfl ?_
        refine v_callSr hX rfl dX8_needed_28 q2222 cs_X8_greatest (mX8_greatest _) rfl ⟨rfl, rfl⟩ ⟨Nat.le_of_ble_eq_true rfl, Nat.le_of_ble_eq_true rfl⟩ rfl (Nat.le_of_ble_eq_true rfl) ⟨Nat.le_of_ble_eq_true rfl, Nat.le_of_ble_eq_true rfl⟩ ?_
        refine v_icmp_gt_t (tgt := 51) hX dX8_needed_31 rfl (by rw [hv]; decide) ?_
        refine v_iconst hX dX8_needed_51 lim1 ?_
        exact v_iret hX dX8_needed_52 hR (Nat.le_of_ble_eq_true rfl) (Nat.le_of_ble_eq_true rfl) (⟨by rw [hRes, tw_nd], hw.to (by rw [hRes, tw_nd])⟩)
      · intro n hn ih
        have ih : ∀ (v : Int32) (x : TS) (w : Wd), tIr r x → tW (xG X) G wB x w → v = nI (9 - n) → R = tw_nd 2 (n) v x → V X w 0 0 26 [some (.ref (G 61)), some (.int 2), some (.int v)] [] := ih
        intro v x w hI hw hv hRes
        refine v_iload_n hX dX8_needed_26 rfl ?_
        refine v_iload_n hX dX8_needed_27 rfl ?_
        refine v_callSr hX rfl dX8_needed_28 q2222 cs_X8_greatest (mX8_greatest _) rfl ⟨rfl, rfl⟩ ⟨Nat.le_of_ble_eq_true rfl, Nat.le_of_ble_eq_true rfl⟩ rfl (Nat.le_of_ble_eq_true rfl) ⟨Nat.le_of_ble_eq_true rfl, Nat.le_of_ble_eq_true rfl⟩ ?_
        refine v_icmp_gt_f (tgt := 51) hX dX8_needed_31 rfl (Int32.not_lt.mpr (by rw [hv, show tw_greatest 2 = nI 8 from by decide]; exact nI_le (by omega) (by omega))) ?_
        refine v_aload_n hX dX8_needed_34 rfl ?_
        refine v_iload_n hX dX8_needed_35 rfl ?_
        refine v_iload_n hX dX8_needed_36 rfl ?_
        refine tv_callV hX rfl dX8_needed_37 q2544 cf_X8_losesWith hw (mX8_losesWith hw hI 2 (by decide) _ (hk.set (by decide)) (2 : Int32) rfl) rfl ⟨rfl, rfl⟩ ⟨Nat.le_of_ble_eq_true rfl, Nat.le_of_ble_eq_true rfl⟩ rfl (Nat.le_of_ble_eq_true rfl) ⟨Nat.le_of_ble_eq_true rfl, Nat.le_of_ble_eq_true rfl⟩ (fun w hw => ?_)
        refine v_ifb_ne (tgt := 45) hX dX8_needed_40 rfl (fun c_40 => ?_) (fun c_40 => ?_)
        · refine v_iinc (lv' := [_, _, _]) hX dX8_needed_45 rfl li1 rfl rfl ?_
          refine v_goto (tgt := 26) hX dX8_needed_48 rfl ?_
          exact ih _ _ _ (show tIr r (tw_et (tw_lw 2 v x)) from lw_I (i := 2) hI (by decide)) hw (by rw [hv, nI_1]; congr 1; omega) (hRes.trans (by rw [tw_nd, if_pos c_40]))
        · refine v_iload_n hX dX8_needed_43 rfl ?_
          exact v_iret hX dX8_needed_44 hR (Nat.le_of_ble_eq_true rfl) (Nat.le_of_ble_eq_true rfl) (⟨by rw [hRes, tw_nd, if_neg c_40], hw.to (by rw [hRes, tw_nd, if_neg c_40])⟩)
    · refine v_aload_n hX dX8_needed_15 rfl ?_
      refine v_iconst hX dX8_needed_16 li1 ?_
      refine tv_callV hX rfl dX8_needed_17 q2103 cf_X8_fails hw (mX8_fails hw _) rfl ⟨rfl, rfl⟩ ⟨Nat.le_of_ble_eq_true rfl, Nat.le_of_ble_eq_true rfl⟩ rfl (Nat.le_of_ble_eq_true rfl) ⟨Nat.le_of_ble_eq_true rfl, Nat.le_of_ble_eq_true rfl⟩ (fun w hw => ?_)
      exact v_iret hX dX8_needed_20 hR (Nat.le_of_ble_eq_true rfl) (Nat.le_of_ble_eq_true rfl) (⟨(by first | (rw [tw_need, if_neg c_7, if_neg c_12]; done) | (rw [tw_need, if_neg c_7, if_neg c_12]; rfl)), hw.to (by first | (rw [tw_need, if_neg c_7, if_neg c_12]; done) | (rw [tw_need, if_neg c_7, if_neg c_12]; rfl))⟩)
def tw_sl (b : Int32) : Nat → TS → Int32 × TS
  | 0, x => (-1, x)
  | n + 1, x => if 999 < tB x b 1 + nI n then tw_sl b n x else if tw_state (tw_dl b (tB x b 1 + nI n) x) b = 1 then (nI n, tw_et (tw_dl b (tB x b 1 + nI n) x)) else tw_sl b n (tw_et (tw_dl b (tB x b 1 + nI n) x))
def tw_slack (b m : Int32) (x : TS) : Int32 × TS := if 0 ≤ b ∧ b ≤ tG (tw_z x) 8 - 1 then if 1 ≤ m ∧ m ≤ 120 then tw_sl b (m.toNatClampNeg + 1) (tw_z x) else tw_f 2 x else tw_f 1 x
theorem pn_r {r : Nat → Int32} {x : TS} (h : tIr r x) : pn x = rn r := by
  unfold pn rn
  rw [show tG x 8 = r 8 from tG_r (i := 8) (k := 0) h.2 h.1 (by decide) (by decide)]
theorem i120 {m : Int32} (h : 1 ≤ m ∧ m ≤ 120) : ∃ k : Nat, m = nI k ∧ k ≤ 120 ∧ m.toNatClampNeg = k := by
  have h1 : vp_in m 121 := isK (n := 120) (by decide) ⟨Int32.le_trans (by decide) h.1, h.2⟩
  obtain ⟨k, hk, e⟩ := vp_in_of h1 (by decide)
  exact ⟨k, e, by omega, clamp_nI e (by omega)⟩
theorem nI_neg1 : nI 0 + (-1) = -1 := by decide
theorem cf_X8_slack : CF RX8 yX8_slack cX8_slack 5 (some .int) 2 := ⟨q2553, q2554, q150, q2555, by decide +kernel⟩
theorem mX8_slack {Γ : Gm} {l : Launch} {G : Nat → Nat} {wB : Wd} {x : TS} {w : Wd} (hw : tW Γ G wB x w) {r : Nat → Int32} (hI : tIr r x) (hk : rOK r) (b m : Int32) : M0 Γ l yX8_slack (ws_ yX8_slack cX8_slack 5 (some .int)) (rl 10 0 0) 0 0 [.ref (G 61), .int b, .int m] w (fun r9 w9 => r9 = some (.int (tw_slack b m x).1) ∧ tW Γ G wB ((tw_slack b m x).2) w9) := by
  refine M0.of (lv := [some (.ref (G 61)), some (.int b), some (.int m), none, none]) (by decide) (Nat.le_of_ble_eq_true rfl) 2 rfl rfl ?_
  intro X hX hR hl hG hnm
  subst hl; subst hG
  refine v_aload_n hX dX8_slack_0 rfl ?_
  refine v_iconst hX dX8_slack_1 li0 ?_
  refine tv_putI hX dX8_slack_2 hw 0 (by decide) rfl q1909 rfl (by decide +kernel) (fun w hw => ?_)
  refine v_aload_n hX dX8_slack_5 rfl ?_
  refine v_iload_n hX dX8_slack_6 rfl ?_
  refine tv_callR hX rfl dX8_slack_7 q2265 cf_X8_isBatch hw (mX8_isBatch hw (hI.z.P hk) _) rfl ⟨rfl, rfl⟩ ⟨Nat.le_of_ble_eq_true rfl, Nat.le_of_ble_eq_true rfl⟩ rfl (Nat.le_of_ble_eq_true rfl) ⟨Nat.le_of_ble_eq_true rfl, Nat.le_of_ble_eq_true rfl⟩ ?_
  refine v_ifb_ne (tgt := 19) hX dX8_slack_10 rfl (fun c_10 => ?_) (fun c_10 => ?_)
  · refine v_iload_n hX dX8_slack_19 rfl ?_
    refine v_iconst hX dX8_slack_20 li1 ?_
    refine v_bipush hX dX8_slack_21 lb120 ?_
    refine v_callSr hX rfl dX8_slack_23 q2115 cs_X8_isIn (mX8_isIn _ _ _) rfl ⟨rfl, rfl⟩ ⟨Nat.le_of_ble_eq_true rfl, Nat.le_of_ble_eq_true rfl⟩ rfl (Nat.le_of_ble_eq_true rfl) ⟨Nat.le_of_ble_eq_true rfl, Nat.le_of_ble_eq_true rfl⟩ ?_
    refine v_ifb_ne (tgt := 35) hX dX8_slack_26 rfl (fun c_26 => ?_) (fun c_26 => ?_)
    · have hRes : tw_slack b m x = tw_sl b (m.toNatClampNeg + 1) (tw_z x) := by rw [tw_slack, if_pos c_10, if_pos c_26]
      obtain ⟨k, hmk, hk120, hmc⟩ := i120 c_26
      rw [hmc] at hRes
      obtain ⟨j, hj, hbj⟩ := vp_in_of (isb (hI.z.P hk) c_10) (by have := (hI.z.P hk).2.1.1; omega)
      rw [pn_r hI.z] at hj
      have h20 := hk.1.1
      generalize tw_slack b m x = R at hRes hR
      refine v_iload_n hX dX8_slack_35 rfl ?_
      refine v_istore_n (lv' := [_, _, _, _, _]) hX dX8_slack_36 (Nat.le_of_ble_eq_true rfl) rfl rfl ?_
      refine nat_up (k + 1) (fun n => ∀ (v : Int32) (x : TS) (w : Wd), tIr r x → tW (xG X) G wB x w → v = nI (n) + (-1) → R = tw_sl b (n) x → V X w 0 0 37 [some (.ref (G 61)), some (.int b), some (.int m), some (.int v), none] []) ?_ ?_ _ _ _ hI.z hw (by rw [pk_m1, hmk]) hRes
      · intro v x w hI hw hv hRes
        rw [nI_neg1] at hv
        subst hv
        refine v_iload_n hX dX8_slack_37 rfl ?_
        refine v_if_lt_t (tgt := 77) hX dX8_slack_38 rfl (by decide) ?_
        refine v_iconst hX dX8_slack_77 lim1 ?_
        exact v_iret hX dX8_slack_78 hR (Nat.le_of_ble_eq_true rfl) (Nat.le_of_ble_eq_true rfl) (⟨by rw [hRes, tw_sl], hw.to (by rw [hRes, tw_sl])⟩)
      · intro n hn ih
        have ih : ∀ (v : Int32) (x : TS) (w : Wd), tIr r x → tW (xG X) G wB x w → v = nI (n) + (-1) → R = tw_sl b (n) x → V X w 0 0 37 [some (.ref (G 61)), some (.int b), some (.int m), some (.int v), none] [] := ih
        intro v x w hI hw hv hRes
        rw [pk_m1] at hv
        subst hv
        have hP := hI.P hk
        have hbn : vp_in b (pn x) := by rw [hbj, pn_r hI]; exact vnI hj (by omega)
        refine v_iload_n hX dX8_slack_37 rfl ?_
        refine v_if_lt_f (tgt := 77) hX dX8_slack_38 rfl (nI_pos (by omega)) ?_
        refine v_aload_n hX dX8_slack_41 rfl ?_
        refine v_iload_n hX dX8_slack_42 rfl ?_
        refine v_iconst hX dX8_slack_43 li1 ?_
        refine tv_callR hX rfl dX8_slack_44 q2269 cf_X8_batch hw (mX8_batch hw _ _ (bidx hP hbn (vin (by decide)))) rfl ⟨rfl, rfl⟩ ⟨Nat.le_of_ble_eq_true rfl, Nat.le_of_ble_eq_true rfl⟩ rfl (Nat.le_of_ble_eq_true rfl) ⟨Nat.le_of_ble_eq_true rfl, Nat.le_of_ble_eq_true rfl⟩ ?_
        refine v_iload_n hX dX8_slack_47 rfl ?_
        refine v_iadd hX dX8_slack_48 ?_
        refine v_istore (lv' := [_, _, _, _, _]) hX dX8_slack_49 (Nat.le_of_ble_eq_true rfl) rfl rfl ?_
        refine v_iload hX dX8_slack_51 rfl ?_
        refine v_sipush hX dX8_slack_53 ls999 ?_
        refine v_icmp_gt (tgt := 71) hX dX8_slack_56 rfl (fun c_56 => ?_) (fun c_56 => ?_)
        · refine v_iinc (lv' := [_, _, _, _, _]) hX dX8_slack_71 rfl lim1 rfl rfl ?_
          refine v_goto (tgt := 37) hX dX8_slack_74 rfl ?_
          exact V.no (lv' := [_, _, _, _, _]) 4 rfl (ih _ _ _ hI hw rfl (hRes.trans (by rw [tw_sl, if_pos c_56])))
        · refine v_aload_n hX dX8_slack_59 rfl ?_
          refine v_iload_n hX dX8_slack_60 rfl ?_
          refine v_iload hX dX8_slack_61 rfl ?_
          refine tv_callV hX rfl dX8_slack_63 q2556 cf_X8_isDoneLater hw (mX8_isDoneLater hw hI hk j (by omega) hj _ _ hbj) rfl ⟨rfl, rfl⟩ ⟨Nat.le_of_ble_eq_true rfl, Nat.le_of_ble_eq_true rfl⟩ rfl (Nat.le_of_ble_eq_true rfl) ⟨Nat.le_of_ble_eq_true rfl, Nat.le_of_ble_eq_true rfl⟩ (fun w hw => ?_)
          refine v_ifb_eq (tgt := 71) hX dX8_slack_66 rfl (fun c_66 => ?_) (fun c_66 => ?_)
          · refine v_iinc (lv' := [_, _, _, _, _]) hX dX8_slack_71 rfl lim1 rfl rfl ?_
            refine v_goto (tgt := 37) hX dX8_slack_74 rfl ?_
            exact V.no (lv' := [_, _, _, _, _]) 4 rfl (ih _ _ _ (by rw [hbj]; exact dl_I hI (by omega)) hw rfl (hRes.trans (by rw [tw_sl, if_neg c_56, if_neg c_66])))
          · refine v_iload_n hX dX8_slack_69 rfl ?_
            exact v_iret hX dX8_slack_70 hR (Nat.le_of_ble_eq_true rfl) (Nat.le_of_ble_eq_true rfl) (⟨by rw [hRes, tw_sl, if_neg c_56, if_pos c_66], hw.to (by rw [hRes, tw_sl, if_neg c_56, if_pos c_66])⟩)
    · refine v_aload_n hX dX8_slack_29 rfl ?_
      refine v_iconst hX dX8_slack_30 li2 ?_
      refine tv_callV hX rfl dX8_slack_31 q2103 cf_X8_fails hw (mX8_fails hw _) rfl ⟨rfl, rfl⟩ ⟨Nat.le_of_ble_eq_true rfl, Nat.le_of_ble_eq_true rfl⟩ rfl (Nat.le_of_ble_eq_true rfl) ⟨Nat.le_of_ble_eq_true rfl, Nat.le_of_ble_eq_true rfl⟩ (fun w hw => ?_)
      exact v_iret hX dX8_slack_34 hR (Nat.le_of_ble_eq_true rfl) (Nat.le_of_ble_eq_true rfl) (⟨(by first | (rw [tw_slack, if_pos c_10, if_neg c_26]; done) | (rw [tw_slack, if_pos c_10, if_neg c_26]; rfl)), hw.to (by first | (rw [tw_slack, if_pos c_10, if_neg c_26]; done) | (rw [tw_slack, if_pos c_10, if_neg c_26]; rfl))⟩)
  · refine v_aload_n hX dX8_slack_13 rfl ?_
    refine v_iconst hX dX8_slack_14 li1 ?_
    refine tv_callV hX rfl dX8_slack_15 q2103 cf_X8_fails hw (mX8_fails hw _) rfl ⟨rfl, rfl⟩ ⟨Nat.le_of_ble_eq_true rfl, Nat.le_of_ble_eq_true rfl⟩ rfl (Nat.le_of_ble_eq_true rfl) ⟨Nat.le_of_ble_eq_true rfl, Nat.le_of_ble_eq_true rfl⟩ (fun w hw => ?_)
    exact v_iret hX dX8_slack_18 hR (Nat.le_of_ble_eq_true rfl) (Nat.le_of_ble_eq_true rfl) (⟨(by first | (rw [tw_slack, if_neg c_10]; done) | (rw [tw_slack, if_neg c_10]; rfl)), hw.to (by first | (rw [tw_slack, if_neg c_10]; done) | (rw [tw_slack, if_neg c_10]; rfl))⟩)
def tw_bp2 (k : Nat) (v : Int32) (z : TS) : TS × Int32 := if v = -1 then (tw_et (tw_kb z), nI k) else if tw_isB z then (tw_et (tw_kb z), nI k) else (tw_et z, v)
def tw_bp1 (k : Nat) (s : TS × Int32) : TS × Int32 := tw_bp2 k s.2 (tw_lw 7 (nI k) s.1)
def tw_bpl (x : TS) : TS × Int32 := it tw_bp1 3 (tw_z x, -1)
theorem bp1_I {r : Nat → Int32} (b : Nat) (s : TS × Int32) (h : tIr r s.1) : tIr r (tw_bp1 b s).1 := by
  have h0 := (tr_r (i := 7) (v := nI b) h (by decide)).2.k (tw_dy_k _)
  unfold tw_bp1
  have h0 : rIs (tw_lw 7 (nI b) s.1) 0 r := h0
  generalize tw_lw 7 (nI b) s.1 = z at h0
  unfold tw_bp2
  split
  · exact tIr.et (h0.k (kb_k z))
  · split
    · exact tIr.et (h0.k (kb_k z))
    · exact tIr.et h0
theorem cf_X8_bestPolicy : CF RX8 yX8_bestPolicy cX8_bestPolicy 3 (some .int) 0 := ⟨q2565, q2566, q150, q2567, by decide +kernel⟩
theorem mX8_bestPolicy {Γ : Gm} {l : Launch} {G : Nat → Nat} {wB : Wd} {x : TS} {w : Wd} (hw : tW Γ G wB x w) {r : Nat → Int32} (hI : tIr r x) (hk : rOK r) : M0 Γ l yX8_bestPolicy (ws_ yX8_bestPolicy cX8_bestPolicy 3 (some .int)) (rl 9 0 0) 0 0 [.ref (G 61)] w (fun r9 w9 => r9 = some (.int (tw_bpl x).2) ∧ tW Γ G wB ((tw_bpl x).1) w9) := by
  refine M0.of (lv := [some (.ref (G 61)), none, none]) (by decide) (Nat.le_of_ble_eq_true rfl) 2 rfl rfl ?_
  intro X hX hR hl hG hnm
  subst hl; subst hG
  refine v_aload_n hX dX8_bestPolicy_0 rfl ?_
  refine v_iconst hX dX8_bestPolicy_1 li0 ?_
  refine tv_putI hX dX8_bestPolicy_2 hw 0 (by decide) rfl q1909 rfl (by decide +kernel) (fun w hw => ?_)
  obtain ⟨y0, hy0⟩ : ∃ z, z = tw_z x := ⟨_, rfl⟩
  have hw : tW (xG X) G wB y0 w := hw.to hy0
  have h0 : tIr r y0 := by rw [hy0]; exact hI.z
  refine v_iconst hX dX8_bestPolicy_5 lim1 ?_
  refine v_istore_n (lv' := [_, _, _]) hX dX8_bestPolicy_6 (Nat.le_of_ble_eq_true rfl) rfl rfl ?_
  refine v_iconst hX dX8_bestPolicy_7 li0 ?_
  refine v_istore_n (lv' := [_, _, _]) hX dX8_bestPolicy_8 (Nat.le_of_ble_eq_true rfl) rfl rfl ?_
  refine loop_up (3) (fun i => ∀ w, tW (xG X) G wB ((it (tw_bp1) (i) (y0, (-1 : Int32))).1) w → V X w 0 0 9 [some (.ref (G 61)), some (.int (it (tw_bp1) (i) (y0, (-1 : Int32))).2), some (.int (nI (i)))] []) ?_ ?_ 0 (Nat.zero_le _) w hw
  · intro w hw
    refine v_iload_n hX dX8_bestPolicy_9 rfl ?_
    refine v_iconst hX dX8_bestPolicy_10 li3 ?_
    refine v_icmp_ge_t (tgt := 57) hX dX8_bestPolicy_11 rfl (by decide) ?_
    refine v_iload_n hX dX8_bestPolicy_57 rfl ?_
    exact v_iret hX dX8_bestPolicy_58 hR (Nat.le_of_ble_eq_true rfl) (Nat.le_of_ble_eq_true rfl) (⟨by rw [tw_bpl, ← hy0], hw.to (by rw [tw_bpl, ← hy0])⟩)
  · intro i hi ih w hw
    have ih : ∀ w, tW (xG X) G wB (((tw_bp1) i (it (tw_bp1) (i) (y0, (-1 : Int32)))).1) w → V X w 0 0 9 [some (.ref (G 61)), some (.int ((tw_bp1) i (it (tw_bp1) (i) (y0, (-1 : Int32)))).2), some (.int (nI (i + 1)))] [] := ih
    have hIy : tIr r (it tw_bp1 (i) (y0, (-1 : Int32))).1 := it_inv (fun s : TS × Int32 => tIr r s.1) h0 3 (fun b s _ q => bp1_I b s q) i (Nat.le_of_lt hi)
    generalize (it (tw_bp1) (i) (y0, (-1 : Int32))) = y at hw ih hIy
    refine v_iload_n hX dX8_bestPolicy_9 rfl ?_
    refine v_iconst hX dX8_bestPolicy_10 li3 ?_
    refine v_icmp_ge_f (tgt := 57) hX dX8_bestPolicy_11 rfl (ge_s (N := 3) rfl hi (by decide)) ?_
    refine v_aload_n hX dX8_bestPolicy_14 rfl ?_
    refine tv_call0 hX rfl dX8_bestPolicy_15 q2516 cf_X8_beginTrial hw (mX8_beginTrial hw) rfl ⟨rfl, rfl⟩ ⟨Nat.le_of_ble_eq_true rfl, Nat.le_of_ble_eq_true rfl⟩ rfl (Nat.le_of_ble_eq_true rfl) ⟨Nat.le_of_ble_eq_true rfl, Nat.le_of_ble_eq_true rfl⟩ (fun w hw => ?_)
    refine v_aload_n hX dX8_bestPolicy_18 rfl ?_
    refine v_bipush hX dX8_bestPolicy_19 lb7 ?_
    refine v_iload_n hX dX8_bestPolicy_21 rfl ?_
    refine tv_call0 hX rfl dX8_bestPolicy_22 q2548 cf_X8_set hw (mX8_set hw _ _ (tr_in (i := 7) (by decide))) rfl ⟨rfl, rfl⟩ ⟨Nat.le_of_ble_eq_true rfl, Nat.le_of_ble_eq_true rfl⟩ rfl (Nat.le_of_ble_eq_true rfl) ⟨Nat.le_of_ble_eq_true rfl, Nat.le_of_ble_eq_true rfl⟩ (fun w hw => ?_)
    refine v_aload_n hX dX8_bestPolicy_25 rfl ?_
    refine tv_call0 hX rfl dX8_bestPolicy_26 q2293 cf_X8_plays hw (mX8_plays1 hw (tr_P (i := 7) hIy (by decide) (hk.set (by decide)))) rfl ⟨rfl, rfl⟩ ⟨Nat.le_of_ble_eq_true rfl, Nat.le_of_ble_eq_true rfl⟩ rfl (Nat.le_of_ble_eq_true rfl) ⟨Nat.le_of_ble_eq_true rfl, Nat.le_of_ble_eq_true rfl⟩ (fun w hw => ?_)
    refine v_iload_n hX dX8_bestPolicy_29 rfl ?_
    refine v_iconst hX dX8_bestPolicy_30 lim1 ?_
    refine v_icmp_eq (tgt := 41) hX dX8_bestPolicy_31 rfl (fun c_31 => ?_) (fun c_31 => ?_)
    · refine v_aload_n hX dX8_bestPolicy_41 rfl ?_
      refine tv_call0 hX rfl dX8_bestPolicy_42 q2532 cf_X8_keepsBest hw (mX8_keepsBest hw ((tr_P (i := 7) hIy (by decide) (hk.set (by decide))).k (tw_dy_k _))) rfl ⟨rfl, rfl⟩ ⟨Nat.le_of_ble_eq_true rfl, Nat.le_of_ble_eq_true rfl⟩ rfl (Nat.le_of_ble_eq_true rfl) ⟨Nat.le_of_ble_eq_true rfl, Nat.le_of_ble_eq_true rfl⟩ (fun w hw => ?_)
      refine v_iload_n hX dX8_bestPolicy_45 rfl ?_
      refine v_istore_n (lv' := [_, _, _]) hX dX8_bestPolicy_46 (Nat.le_of_ble_eq_true rfl) rfl rfl ?_
      refine v_aload_n hX dX8_bestPolicy_47 rfl ?_
      refine tv_call0 hX rfl dX8_bestPolicy_48 q2536 cf_X8_endTrial hw (mX8_endTrial hw) rfl ⟨rfl, rfl⟩ ⟨Nat.le_of_ble_eq_true rfl, Nat.le_of_ble_eq_true rfl⟩ rfl (Nat.le_of_ble_eq_true rfl) ⟨Nat.le_of_ble_eq_true rfl, Nat.le_of_ble_eq_true rfl⟩ (fun w hw => ?_)
      refine v_iinc (lv' := [_, _, _]) hX dX8_bestPolicy_51 rfl li1 rfl rfl ?_
      refine v_goto (tgt := 9) hX dX8_bestPolicy_54 rfl ?_
      exact V.at rfl (by rw [nI_1, tw_bp1, tw_bp2, if_pos c_31]) rfl (ih w (hw.to (by first | (rw [tw_bp1, tw_bp2, if_pos c_31]; done) | (rw [tw_bp1, tw_bp2, if_pos c_31]; rfl))))
    · refine v_aload_n hX dX8_bestPolicy_34 rfl ?_
      refine tv_callR hX rfl dX8_bestPolicy_35 q2528 cf_X8_isBetter hw (mX8_isBetter hw ((tr_P (i := 7) hIy (by decide) (hk.set (by decide))).k (tw_dy_k _))) rfl ⟨rfl, rfl⟩ ⟨Nat.le_of_ble_eq_true rfl, Nat.le_of_ble_eq_true rfl⟩ rfl (Nat.le_of_ble_eq_true rfl) ⟨Nat.le_of_ble_eq_true rfl, Nat.le_of_ble_eq_true rfl⟩ ?_
      refine v_ifb_eq (tgt := 47) hX dX8_bestPolicy_38 rfl (fun c_38 => ?_) (fun c_38 => ?_)
      · refine v_aload_n hX dX8_bestPolicy_47 rfl ?_
        refine tv_call0 hX rfl dX8_bestPolicy_48 q2536 cf_X8_endTrial hw (mX8_endTrial hw) rfl ⟨rfl, rfl⟩ ⟨Nat.le_of_ble_eq_true rfl, Nat.le_of_ble_eq_true rfl⟩ rfl (Nat.le_of_ble_eq_true rfl) ⟨Nat.le_of_ble_eq_true rfl, Nat.le_of_ble_eq_true rfl⟩ (fun w hw => ?_)
        refine v_iinc (lv' := [_, _, _]) hX dX8_bestPolicy_51 rfl li1 rfl rfl ?_
        refine v_goto (tgt := 9) hX dX8_bestPolicy_54 rfl ?_
        exact V.at rfl (by rw [nI_1, tw_bp1, tw_bp2, if_neg c_31, if_neg (show ¬ tw_isB (tw_lw 7 (nI i) y.1) from c_38)]) rfl (ih w (hw.to (by first | (rw [tw_bp1, tw_bp2, if_neg c_31, if_neg (show ¬ tw_isB (tw_lw 7 (nI i) y.1) from c_38)]; done) | (rw [tw_bp1, tw_bp2, if_neg c_31, if_neg (show ¬ tw_isB (tw_lw 7 (nI i) y.1) from c_38)]; rfl))))
      · refine v_aload_n hX dX8_bestPolicy_41 rfl ?_
        refine tv_call0 hX rfl dX8_bestPolicy_42 q2532 cf_X8_keepsBest hw (mX8_keepsBest hw ((tr_P (i := 7) hIy (by decide) (hk.set (by decide))).k (tw_dy_k _))) rfl ⟨rfl, rfl⟩ ⟨Nat.le_of_ble_eq_true rfl, Nat.le_of_ble_eq_true rfl⟩ rfl (Nat.le_of_ble_eq_true rfl) ⟨Nat.le_of_ble_eq_true rfl, Nat.le_of_ble_eq_true rfl⟩ (fun w hw => ?_)
        refine v_iload_n hX dX8_bestPolicy_45 rfl ?_
        refine v_istore_n (lv' := [_, _, _]) hX dX8_bestPolicy_46 (Nat.le_of_ble_eq_true rfl) rfl rfl ?_
        refine v_aload_n hX dX8_bestPolicy_47 rfl ?_
        refine tv_call0 hX rfl dX8_bestPolicy_48 q2536 cf_X8_endTrial hw (mX8_endTrial hw) rfl ⟨rfl, rfl⟩ ⟨Nat.le_of_ble_eq_true rfl, Nat.le_of_ble_eq_true rfl⟩ rfl (Nat.le_of_ble_eq_true rfl) ⟨Nat.le_of_ble_eq_true rfl, Nat.le_of_ble_eq_true rfl⟩ (fun w hw => ?_)
        refine v_iinc (lv' := [_, _, _]) hX dX8_bestPolicy_51 rfl li1 rfl rfl ?_
        refine v_goto (tgt := 9) hX dX8_bestPolicy_54 rfl ?_
        exact V.at rfl (by rw [nI_1, tw_bp1, tw_bp2, if_neg c_31, if_pos (show tw_isB (tw_lw 7 (nI i) y.1) from c_38)]) rfl (ih w (hw.to (by first | (rw [tw_bp1, tw_bp2, if_neg c_31, if_pos (show tw_isB (tw_lw 7 (nI i) y.1) from c_38)]; done) | (rw [tw_bp1, tw_bp2, if_neg c_31, if_pos (show tw_isB (tw_lw 7 (nI i) y.1) from c_38)]; rfl))))
end
