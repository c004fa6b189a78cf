/-! the twin: edits, input -/
noncomputable section
set_option maxRecDepth 100000
theorem lb16 : (Int8.ofInt (16)).toInt32 = 16 := by decide +kernel
theorem lb24 : (Int8.ofInt (24)).toInt32 = 24 := by decide +kernel
theorem ls700 : (Int16.ofInt (700)).toInt32 = 700 := by decide +kernel
def tw_rm1 (j i : Nat) (y : TS) : TS := tw_ex (nI (j + i)) (nI (j + i) + 1) y
def tw_rm2 (z : TS) : Int32 × TS := (fun u => (tG u 8, u)) (tU z 1 (z.1 2 + 8) (tG z 8 - 1))
def tw_rmv (b : Int32) (x : TS) : Int32 × TS := if 0 ≤ b ∧ b ≤ tG (tw_z x) 8 - 1 then tw_rm2 (it (tw_rm1 b.toNatClampNeg) (pn (tw_z x) - 1 - b.toNatClampNeg) (tw_kp (tw_z x))) else tw_f 1 x
/-- a good plan of n batches is looked at -/
def tGn (n : Nat) (x : TS) : Prop := ∃ r, tIr r x ∧ rOK r ∧ rn r = n
theorem tGn.P {n : Nat} {x : TS} (h : tGn n x) : tP x := by obtain ⟨r, h1, h2, -⟩ := h; exact h1.P h2
theorem tGn.n {n : Nat} {x : TS} (h : tGn n x) : tG x 8 = nI n := by
  obtain ⟨r, h1, h2, h3⟩ := h
  rw [← h3]
  exact (tG_r (i := 8) (k := 0) h1.2 h1.1 (by decide) (by decide)).trans h2.1.2
theorem tGn.ex {n a b : Nat} {x : TS} (h : tGn n x) (ha : a < n) (hb : b < n) (hne : a ≠ b) (hn : n ≤ 20) : tGn n (tw_ex (nI a) (nI b) x) := by
  obtain ⟨r, h1, h2, h3⟩ := h
  subst h3
  exact ⟨rswap r a b, ⟨by rw [ex_1]; exact h1.1, h1.2.ex (k := 0) h1.1 (by decide) (by omega) (by omega) hne⟩, h2.swap ha hb, rn_swap⟩
theorem rm_G {n j : Nat} {x : TS} (h : tGn n x) (hn : n ≤ 20) : ∀ i, i ≤ n - 1 - j → tGn n (it (tw_rm1 j) i x) :=
  it_inv (tGn n) h (n - 1 - j) (fun i y hi q => by
    show tGn n (tw_ex (nI (j + i)) (nI (j + i) + 1) y)
    rw [nI_1]
    exact q.ex (by omega) (by omega) (by omega) hn)
def tw_mv2 (j i : Nat) (y : TS) : TS := tw_ex (nI (j - i)) (nI (j - i) - 1) y
theorem mv_G {n j t : Nat} {x : TS} (h : tGn n x) (hn : n ≤ 20) (hj : j < n) : ∀ i, i ≤ j - t → tGn n (it (tw_mv2 j) i x) :=
  it_inv (tGn n) h (j - t) (fun i y hi q => by
    show tGn n (tw_ex (nI (j - i)) (nI (j - i) - 1) y)
    obtain ⟨m, hm⟩ : ∃ m, j - i = m + 1 := ⟨j - i - 1, by omega⟩
    rw [hm, nI_pred]
    exact q.ex (by omega) (by omega) (by omega) hn)
theorem mvu_G {n j t : Nat} {x : TS} (h : tGn n x) (hn : n ≤ 20) (ht : t < n) : ∀ i, i ≤ t - j → tGn n (it (tw_rm1 j) i x) :=
  it_inv (tGn n) h (t - j) (fun i y hi q => by
    show tGn n (tw_ex (nI (j + i)) (nI (j + i) + 1) y)
    rw [nI_1]
    exact q.ex (by omega) (by omega) (by omega) hn)
def tw_mov (b t : Int32) (x : TS) : Int32 × TS := if 0 ≤ b ∧ b ≤ tG (tw_z x) 8 - 1 then if 0 ≤ t ∧ t ≤ tG (tw_z x) 8 - 1 then (tw_apart b t, it (tw_mv2 b.toNatClampNeg) (b.toNatClampNeg - t.toNatClampNeg) (it (tw_rm1 b.toNatClampNeg) (t.toNatClampNeg - b.toNatClampNeg) (tw_kp (tw_z x)))) else tw_f 1 x else tw_f 1 x
theorem nI_m (k : Nat) (h : 1 ≤ k) : nI k + (-1) = nI (k - 1) := by
  obtain ⟨m, rfl⟩ : ∃ m, k = m + 1 := ⟨k - 1, by omega⟩
  rw [pk_m1]; congr 1
theorem cf_X8_removeBatch : CF RX8 yX8_removeBatch cX8_removeBatch 3 (some .int) 1 := ⟨q2589, q2590, q150, q2591, by decide +kernel⟩
theorem mX8_removeBatch {Γ : Gm} {l : Launch} {G : Nat → Nat} {wB : Wd} {x : TS} {w : Wd} (hw : tW Γ G wB x w) {r : Nat → Int32} (hI : tIr r x) (hk : rOK r) (he : tEd x) (b : Int32) : M0 Γ l yX8_removeBatch (ws_ yX8_removeBatch cX8_removeBatch 3 (some .int)) (rl 3 0 0) 0 0 [.ref (G 61), .int b] w (fun r9 w9 => r9 = some (.int (tw_rmv b x).1) ∧ tW Γ G wB ((tw_rmv b x).2) w9) := by
  refine M0.of (lv := [some (.ref (G 61)), some (.int b), none]) (by decide) (Nat.le_of_ble_eq_true rfl) 1 rfl rfl ?_
  intro X hX hR hl hG hnm
  subst hl; subst hG
  refine v_aload_n hX dX8_removeBatch_0 rfl ?_
  refine v_iconst hX dX8_removeBatch_1 li0 ?_
  refine tv_putI hX dX8_removeBatch_2 hw 0 (by decide) rfl q1909 rfl (by decide +kernel) (fun w hw => ?_)
  refine v_aload_n hX dX8_removeBatch_5 rfl ?_
  refine v_iload_n hX dX8_removeBatch_6 rfl ?_
  refine tv_callR hX rfl dX8_removeBatch_7 q2265 cf_X8_isBatch hw (mX8_isBatch hw (hI.z.P hk) _) rfl ⟨rfl, rfl⟩ ⟨Nat.le_of_ble_eq_true rfl, Nat.le_of_ble_eq_true rfl⟩ rfl (Nat.le_of_ble_eq_true rfl) ⟨Nat.le_of_ble_eq_true rfl, Nat.le_of_ble_eq_true rfl⟩ ?_
  refine v_ifb_ne (tgt := 19) hX dX8_removeBatch_10 rfl (fun c_10 => ?_) (fun c_10 => ?_)
  · refine v_aload_n hX dX8_removeBatch_19 rfl ?_
    refine tv_call0 hX rfl dX8_removeBatch_20 q2584 cf_X8_keep hw (mX8_keep hw he.z) rfl ⟨rfl, rfl⟩ ⟨Nat.le_of_ble_eq_true rfl, Nat.le_of_ble_eq_true rfl⟩ rfl (Nat.le_of_ble_eq_true rfl) ⟨Nat.le_of_ble_eq_true rfl, Nat.le_of_ble_eq_true rfl⟩ (fun w hw => ?_)
    obtain ⟨j, hj, hbj⟩ := vp_in_of (isb (hI.z.P hk) c_10) (by have := (hI.z.P hk).2.1.1; omega)
    have hn20 : pn (tw_z x) ≤ 20 := (hI.z.P hk).2.1.1
    have hjc : b.toNatClampNeg = j := clamp_nI hbj (by omega)
    obtain ⟨z, hz⟩ : ∃ z, z = tw_kp (tw_z x) := ⟨_, rfl⟩
    have hw : tW (xG X) G wB z w := hw.to hz
    have hGz : tGn (pn (tw_z x)) z := by rw [hz]; exact ⟨r, kp_I hI.z he.z, hk, (pn_r hI.z).symm⟩
    have hRes : tw_rmv b x = tw_rm2 (it (tw_rm1 j) (pn (tw_z x) - 1 - j) z) := by rw [tw_rmv, if_pos c_10, hjc, ← hz]
    generalize tw_rmv b x = R at hR hRes
    subst hbj
    generalize pn (tw_z x) = n at *
    refine v_iload_n hX dX8_removeBatch_23 rfl ?_
    refine v_istore_n (lv' := [_, _, _]) hX dX8_removeBatch_24 (Nat.le_of_ble_eq_true rfl) rfl rfl ?_
    refine loop_up (n - 1 - j) (fun i => ∀ w, tW (xG X) G wB ((it (tw_rm1 j) (i) z)) w → V X w 0 0 25 [some (.ref (G 61)), some (.int (nI j)), some (.int (nI (j + (i))))] []) ?_ ?_ 0 (Nat.zero_le _) w hw
    · intro w hw
      have hGy : tGn n (it (tw_rm1 j) (n - 1 - j) z) := rm_G hGz hn20 _ (Nat.le_refl _)
      obtain ⟨y, hy⟩ : ∃ y, y = it (tw_rm1 j) (n - 1 - j) z := ⟨_, rfl⟩
      rw [← hy] at hw hGy hRes
      refine v_iload_n hX dX8_removeBatch_25 rfl ?_
      refine v_iconst hX dX8_removeBatch_26 li1 ?_
      refine v_iadd hX dX8_removeBatch_27 ?_
      refine v_aload_n hX dX8_removeBatch_28 rfl ?_
      refine tv_callR hX rfl dX8_removeBatch_29 q2225 cf_X8_many hw (mX8_many hw hGy.P) rfl ⟨rfl, rfl⟩ ⟨Nat.le_of_ble_eq_true rfl, Nat.le_of_ble_eq_true rfl⟩ rfl (Nat.le_of_ble_eq_true rfl) ⟨Nat.le_of_ble_eq_true rfl, Nat.le_of_ble_eq_true rfl⟩ ?_
      refine v_icmp_ge_t (tgt := 49) hX dX8_removeBatch_32 rfl ((by rw [hGy.n, nI_1]; exact nI_le (by omega) (by omega))) ?_
      refine v_aload_n hX dX8_removeBatch_49 rfl ?_
      refine v_bipush hX dX8_removeBatch_50 lb8 ?_
      refine v_aload_n hX dX8_removeBatch_52 rfl ?_
      refine tv_callR hX rfl dX8_removeBatch_53 q2225 cf_X8_many hw (mX8_many hw hGy.P) rfl ⟨rfl, rfl⟩ ⟨Nat.le_of_ble_eq_true rfl, Nat.le_of_ble_eq_true rfl⟩ rfl (Nat.le_of_ble_eq_true rfl) ⟨Nat.le_of_ble_eq_true rfl, Nat.le_of_ble_eq_true rfl⟩ ?_
      refine v_iconst hX dX8_removeBatch_56 li1 ?_
      refine v_isub hX dX8_removeBatch_57 ?_
      refine tv_call0 hX rfl dX8_removeBatch_58 q2548 cf_X8_set hw (mX8_set hw _ _ (gidx hGy.P (vin (by decide)))) rfl ⟨rfl, rfl⟩ ⟨Nat.le_of_ble_eq_true rfl, Nat.le_of_ble_eq_true rfl⟩ rfl (Nat.le_of_ble_eq_true rfl) ⟨Nat.le_of_ble_eq_true rfl, Nat.le_of_ble_eq_true rfl⟩ (fun w hw => ?_)
      refine v_aload_n hX dX8_removeBatch_61 rfl ?_
      refine tv_callR hX rfl dX8_removeBatch_62 q2225 cf_X8_many hw (mX8_many0 hw hGy.P.1) rfl ⟨rfl, rfl⟩ ⟨Nat.le_of_ble_eq_true rfl, Nat.le_of_ble_eq_true rfl⟩ rfl (Nat.le_of_ble_eq_true rfl) ⟨Nat.le_of_ble_eq_true rfl, Nat.le_of_ble_eq_true rfl⟩ ?_
      exact v_iret hX dX8_removeBatch_65 hR (Nat.le_of_ble_eq_true rfl) (Nat.le_of_ble_eq_true rfl) (⟨by rw [hRes]; rfl, hw.to (by rw [hRes]; rfl)⟩)
    · intro i hi ih w hw
      have ih : ∀ w, tW (xG X) G wB (((tw_rm1 j) i (it (tw_rm1 j) (i) z))) w → V X w 0 0 25 [some (.ref (G 61)), some (.int (nI j)), some (.int (nI (j + (i + 1))))] [] := ih
      have hGy : tGn n (it (tw_rm1 j) i z) := rm_G hGz hn20 i (Nat.le_of_lt hi)
      generalize (it (tw_rm1 j) (i) z) = y at hw ih hGy
      refine v_iload_n hX dX8_removeBatch_25 rfl ?_
      refine v_iconst hX dX8_removeBatch_26 li1 ?_
      refine v_iadd hX dX8_removeBatch_27 ?_
      refine v_aload_n hX dX8_removeBatch_28 rfl ?_
      refine tv_callR hX rfl dX8_removeBatch_29 q2225 cf_X8_many hw (mX8_many hw hGy.P) rfl ⟨rfl, rfl⟩ ⟨Nat.le_of_ble_eq_true rfl, Nat.le_of_ble_eq_true rfl⟩ rfl (Nat.le_of_ble_eq_true rfl) ⟨Nat.le_of_ble_eq_true rfl, Nat.le_of_ble_eq_true rfl⟩ ?_
      refine v_icmp_ge_f (tgt := 49) hX dX8_removeBatch_32 rfl ((by rw [hGy.n, nI_1]; exact nI_ge (by omega) (by omega))) ?_
      refine v_aload_n hX dX8_removeBatch_35 rfl ?_
      refine v_iload_n hX dX8_removeBatch_36 rfl ?_
      refine v_iload_n hX dX8_removeBatch_37 rfl ?_
      refine v_iconst hX dX8_removeBatch_38 li1 ?_
      refine v_iadd hX dX8_removeBatch_39 ?_
      refine tv_call0 hX rfl dX8_removeBatch_40 q2520 cf_X8_exchange hw (mX8_exchange hw (hGy.P.1) _ _ (vnI (show j + i < 20 by omega) (by decide)) (by rw [nI_1]; exact vnI (show j + i + 1 < 20 by omega) (by decide))) rfl ⟨rfl, rfl⟩ ⟨Nat.le_of_ble_eq_true rfl, Nat.le_of_ble_eq_true rfl⟩ rfl (Nat.le_of_ble_eq_true rfl) ⟨Nat.le_of_ble_eq_true rfl, Nat.le_of_ble_eq_true rfl⟩ (fun w hw => ?_)
      refine v_iinc (lv' := [_, _, _]) hX dX8_removeBatch_43 rfl li1 rfl rfl ?_
      refine v_goto (tgt := 25) hX dX8_removeBatch_46 rfl ?_
      exact V.at rfl (by rw [nI_1]; rfl) rfl (ih w hw)
  · refine v_aload_n hX dX8_removeBatch_13 rfl ?_
    refine v_iconst hX dX8_removeBatch_14 li1 ?_
    refine tv_callV hX rfl dX8_removeBatch_15 q2103 cf_X8_fails hw (mX8_fails hw _) rfl ⟨rfl, rfl⟩ ⟨Nat.le_of_ble_eq_true rfl, Nat.le_of_ble_eq_true rfl⟩ rfl (Nat.le_of_ble_eq_true rfl) ⟨Nat.le_of_ble_eq_true rfl, Nat.le_of_ble_eq_true rfl⟩ (fun w hw => ?_)
    exact v_iret hX dX8_removeBatch_18 hR (Nat.le_of_ble_eq_true rfl) (Nat.le_of_ble_eq_true rfl) (⟨(by first | (rw [tw_rmv, if_neg c_10]; done) | (rw [tw_rmv, if_neg c_10]; rfl)), hw.to (by first | (rw [tw_rmv, if_neg c_10]; done) | (rw [tw_rmv, if_neg c_10]; rfl))⟩)
theorem cf_X8_moveBatch : CF RX8 yX8_moveBatch cX8_moveBatch 4 (some .int) 2 := ⟨q2593, q2594, q150, q2595, by decide +kernel⟩
theorem mX8_moveBatch {Γ : Gm} {l : Launch} {G : Nat → Nat} {wB : Wd} {x : TS} {w : Wd} (hw : tW Γ G wB x w) {r : Nat → Int32} (hI : tIr r x) (hk : rOK r) (he : tEd x) (b t : Int32) : M0 Γ l yX8_moveBatch (ws_ yX8_moveBatch cX8_moveBatch 4 (some .int)) (rl 3 0 0) 0 0 [.ref (G 61), .int b, .int t] w (fun r9 w9 => r9 = some (.int (tw_mov b t x).1) ∧ tW Γ G wB ((tw_mov b t x).2) w9) := by
  refine M0.of (lv := [some (.ref (G 61)), some (.int b), some (.int t), none]) (by decide) (Nat.le_of_ble_eq_true rfl) 1 rfl rfl ?_
  intro X hX hR hl hG hnm
  subst hl; subst hG
  refine v_aload_n hX dX8_moveBatch_0 rfl ?_
  refine v_iconst hX dX8_moveBatch_1 li0 ?_
  refine tv_putI hX dX8_moveBatch_2 hw 0 (by decide) rfl q1909 rfl (by decide +kernel) (fun w hw => ?_)
  refine v_aload_n hX dX8_moveBatch_5 rfl ?_
  refine v_iload_n hX dX8_moveBatch_6 rfl ?_
  refine tv_callR hX rfl dX8_moveBatch_7 q2265 cf_X8_isBatch hw (mX8_isBatch hw (hI.z.P hk) _) rfl ⟨rfl, rfl⟩ ⟨Nat.le_of_ble_eq_true rfl, Nat.le_of_ble_eq_true rfl⟩ rfl (Nat.le_of_ble_eq_true rfl) ⟨Nat.le_of_ble_eq_true rfl, Nat.le_of_ble_eq_true rfl⟩ ?_
  refine v_ifb_eq (tgt := 21) hX dX8_moveBatch_10 rfl (fun c_10 => ?_) (fun c_10 => ?_)
  · refine v_aload_n hX dX8_moveBatch_21 rfl ?_
    refine v_iconst hX dX8_moveBatch_22 li1 ?_
    refine tv_callV hX rfl dX8_moveBatch_23 q2103 cf_X8_fails hw (mX8_fails hw _) rfl ⟨rfl, rfl⟩ ⟨Nat.le_of_ble_eq_true rfl, Nat.le_of_ble_eq_true rfl⟩ rfl (Nat.le_of_ble_eq_true rfl) ⟨Nat.le_of_ble_eq_true rfl, Nat.le_of_ble_eq_true rfl⟩ (fun w hw => ?_)
    exact v_iret hX dX8_moveBatch_26 hR (Nat.le_of_ble_eq_true rfl) (Nat.le_of_ble_eq_true rfl) (⟨(by first | (rw [tw_mov, if_neg c_10]; done) | (rw [tw_mov, if_neg c_10]; rfl)), hw.to (by first | (rw [tw_mov, if_neg c_10]; done) | (rw [tw_mov, if_neg c_10]; rfl))⟩)
  · refine v_aload_n hX dX8_moveBatch_13 rfl ?_
    refine v_iload_n hX dX8_moveBatch_14 rfl ?_
    refine tv_callR hX rfl dX8_moveBatch_15 q2265 cf_X8_isBatch hw (mX8_isBatch hw (hI.z.P hk) _) rfl ⟨rfl, rfl⟩ ⟨Nat.le_of_ble_eq_true rfl, Nat.le_of_ble_eq_true rfl⟩ rfl (Nat.le_of_ble_eq_true rfl) ⟨Nat.le_of_ble_eq_true rfl, Nat.le_of_ble_eq_true rfl⟩ ?_
    refine v_ifb_ne (tgt := 27) hX dX8_moveBatch_18 rfl (fun c_18 => ?_) (fun c_18 => ?_)
    · refine v_aload_n hX dX8_moveBatch_27 rfl ?_
      refine tv_call0 hX rfl dX8_moveBatch_28 q2584 cf_X8_keep hw (mX8_keep hw he.z) rfl ⟨rfl, rfl⟩ ⟨Nat.le_of_ble_eq_true rfl, Nat.le_of_ble_eq_true rfl⟩ rfl (Nat.le_of_ble_eq_true rfl) ⟨Nat.le_of_ble_eq_true rfl, Nat.le_of_ble_eq_true rfl⟩ (fun w hw => ?_)
      obtain ⟨j, hj, hbj⟩ := vp_in_of (isb (hI.z.P hk) c_10) (by have := (hI.z.P hk).2.1.1; omega)
      obtain ⟨u, hu, htu⟩ := vp_in_of (isb (hI.z.P hk) c_18) (by have := (hI.z.P hk).2.1.1; omega)
      have hn20 : pn (tw_z x) ≤ 20 := (hI.z.P hk).2.1.1
      have hjc : b.toNatClampNeg = j := clamp_nI hbj (by omega)
      have huc : t.toNatClampNeg = u := clamp_nI htu (by omega)
      obtain ⟨z, hz⟩ : ∃ z, z = tw_kp (tw_z x) := ⟨_, rfl⟩
      have hw : tW (xG X) G wB z w := hw.to hz
      have hGz : tGn (pn (tw_z x)) z := by rw [hz]; exact ⟨r, kp_I hI.z he.z, hk, (pn_r hI.z).symm⟩
      have hRes : tw_mov b t x = (tw_apart b t, it (tw_mv2 j) (j - u) (it (tw_rm1 j) (u - j) z)) := by rw [tw_mov, if_pos c_10, if_pos c_18, hjc, huc, ← hz]
      generalize tw_mov b t x = R at hR hRes
      subst hbj
      subst htu
      generalize pn (tw_z x) = n at *
      refine v_iload_n hX dX8_moveBatch_31 rfl ?_
      refine v_istore_n (lv' := [_, _, _, _]) hX dX8_moveBatch_32 (Nat.le_of_ble_eq_true rfl) rfl rfl ?_
      refine loop_up (u - j) (fun i => ∀ w, tW (xG X) G wB ((it (tw_rm1 j) (i) z)) w → V X w 0 0 33 [some (.ref (G 61)), some (.int (nI j)), some (.int (nI u)), some (.int (nI (j + (i))))] []) ?_ ?_ 0 (Nat.zero_le _) w hw
      · intro w hw
        have hGy0 : tGn n (it (tw_rm1 j) (u - j) z) := mvu_G hGz hn20 hu _ (Nat.le_refl _)
        obtain ⟨z2, hz2⟩ : ∃ y, y = it (tw_rm1 j) (u - j) z := ⟨_, rfl⟩
        rw [← hz2] at hw hGy0 hRes
        refine v_iload_n hX dX8_moveBatch_33 rfl ?_
        refine v_iload_n hX dX8_moveBatch_34 rfl ?_
        refine v_icmp_ge_t (tgt := 52) hX dX8_moveBatch_35 rfl ((nI_le (by omega) (by omega))) ?_
        refine v_iload_n hX dX8_moveBatch_52 rfl ?_
        refine v_istore_n (lv' := [_, _, _, _]) hX dX8_moveBatch_53 (Nat.le_of_ble_eq_true rfl) rfl rfl ?_
        refine loop_up (j - u) (fun i => ∀ w, tW (xG X) G wB ((it (tw_mv2 j) (i) z2)) w → V X w 0 0 54 [some (.ref (G 61)), some (.int (nI j)), some (.int (nI u)), some (.int (nI (j - (i))))] []) ?_ ?_ 0 (Nat.zero_le _) w hw
        · intro w hw
          obtain ⟨y, hy⟩ : ∃ y, y = it (tw_mv2 j) (j - u) z2 := ⟨_, rfl⟩
          rw [← hy] at hw hRes
          refine v_iload_n hX dX8_moveBatch_54 rfl ?_
          refine v_iload_n hX dX8_moveBatch_55 rfl ?_
          refine v_icmp_le_t (tgt := 73) hX dX8_moveBatch_56 rfl ((nI_le (by omega) (by omega))) ?_
          refine v_iload_n hX dX8_moveBatch_73 rfl ?_
          refine v_iload_n hX dX8_moveBatch_74 rfl ?_
          refine v_callSr hX rfl dX8_moveBatch_75 q2368 cs_X8_apart (mX8_apart _ _) rfl ⟨rfl, rfl⟩ ⟨Nat.le_of_ble_eq_true rfl, Nat.le_of_ble_eq_true rfl⟩ rfl (Nat.le_of_ble_eq_true rfl) ⟨Nat.le_of_ble_eq_true rfl, Nat.le_of_ble_eq_true rfl⟩ ?_
          exact v_iret hX dX8_moveBatch_78 hR (Nat.le_of_ble_eq_true rfl) (Nat.le_of_ble_eq_true rfl) (⟨by rw [hRes], hw.to (by rw [hRes])⟩)
        · intro i hi ih w hw
          have ih : ∀ w, tW (xG X) G wB (((tw_mv2 j) i (it (tw_mv2 j) (i) z2))) w → V X w 0 0 54 [some (.ref (G 61)), some (.int (nI j)), some (.int (nI u)), some (.int (nI (j - (i + 1))))] [] := ih
          have hGy : tGn n (it (tw_mv2 j) i z2) := mv_G hGy0 hn20 hj i (Nat.le_of_lt hi)
          generalize (it (tw_mv2 j) (i) z2) = y at hw ih hGy
          refine v_iload_n hX dX8_moveBatch_54 rfl ?_
          refine v_iload_n hX dX8_moveBatch_55 rfl ?_
          refine v_icmp_le_f (tgt := 73) hX dX8_moveBatch_56 rfl ((nI_ge (by omega) (by omega))) ?_
          refine v_aload_n hX dX8_moveBatch_59 rfl ?_
          refine v_iload_n hX dX8_moveBatch_60 rfl ?_
          refine v_iload_n hX dX8_moveBatch_61 rfl ?_
          refine v_iconst hX dX8_moveBatch_62 li1 ?_
          refine v_isub hX dX8_moveBatch_63 ?_
          refine tv_call0 hX rfl dX8_moveBatch_64 q2520 cf_X8_exchange hw (mX8_exchange hw (hGy.P.1) _ _ (vnI (show j - i < 20 by omega) (by decide)) (by rw [show j - i = (j - i - 1) + 1 by omega, nI_pred]; exact vnI (show j - i - 1 < 20 by omega) (by decide))) rfl ⟨rfl, rfl⟩ ⟨Nat.le_of_ble_eq_true rfl, Nat.le_of_ble_eq_true rfl⟩ rfl (Nat.le_of_ble_eq_true rfl) ⟨Nat.le_of_ble_eq_true rfl, Nat.le_of_ble_eq_true rfl⟩ (fun w hw => ?_)
          refine v_iinc (lv' := [_, _, _, _]) hX dX8_moveBatch_67 rfl lim1 rfl rfl ?_
          refine v_goto (tgt := 54) hX dX8_moveBatch_70 rfl ?_
          exact V.at rfl (by rw [nI_m _ (by omega), show j - i - 1 = j - (i + 1) by omega]) rfl (ih w hw)
      · intro i hi ih w hw
        have ih : ∀ w, tW (xG X) G wB (((tw_rm1 j) i (it (tw_rm1 j) (i) z))) w → V X w 0 0 33 [some (.ref (G 61)), some (.int (nI j)), some (.int (nI u)), some (.int (nI (j + (i + 1))))] [] := ih
        have hGy : tGn n (it (tw_rm1 j) i z) := mvu_G hGz hn20 hu i (Nat.le_of_lt hi)
        generalize (it (tw_rm1 j) (i) z) = y at hw ih hGy
        refine v_iload_n hX dX8_moveBatch_33 rfl ?_
        refine v_iload_n hX dX8_moveBatch_34 rfl ?_
        refine v_icmp_ge_f (tgt := 52) hX dX8_moveBatch_35 rfl ((nI_ge (by omega) (by omega))) ?_
        refine v_aload_n hX dX8_moveBatch_38 rfl ?_
        refine v_iload_n hX dX8_moveBatch_39 rfl ?_
        refine v_iload_n hX dX8_moveBatch_40 rfl ?_
        refine v_iconst hX dX8_moveBatch_41 li1 ?_
        refine v_iadd hX dX8_moveBatch_42 ?_
        refine tv_call0 hX rfl dX8_moveBatch_43 q2520 cf_X8_exchange hw (mX8_exchange hw (hGy.P.1) _ _ (vnI (show j + i < 20 by omega) (by decide)) (by rw [nI_1]; exact vnI (show j + i + 1 < 20 by omega) (by decide))) rfl ⟨rfl, rfl⟩ ⟨Nat.le_of_ble_eq_true rfl, Nat.le_of_ble_eq_true rfl⟩ rfl (Nat.le_of_ble_eq_true rfl) ⟨Nat.le_of_ble_eq_true rfl, Nat.le_of_ble_eq_true rfl⟩ (fun w hw => ?_)
        refine v_iinc (lv' := [_, _, _, _]) hX dX8_moveBatch_46 rfl li1 rfl rfl ?_
        refine v_goto (tgt := 33) hX dX8_moveBatch_49 rfl ?_
        exact V.at rfl (by rw [nI_1]; rfl) rfl (ih w hw)
    · refine v_aload_n hX dX8_moveBatch_21 rfl ?_
      refine v_iconst hX dX8_moveBatch_22 li1 ?_
      refine tv_callV hX rfl dX8_moveBatch_23 q2103 cf_X8_fails hw (mX8_fails hw _) rfl ⟨rfl, rfl⟩ ⟨Nat.le_of_ble_eq_true rfl, Nat.le_of_ble_eq_true rfl⟩ rfl (Nat.le_of_ble_eq_true rfl) ⟨Nat.le_of_ble_eq_true rfl, Nat.le_of_ble_eq_true rfl⟩ (fun w hw => ?_)
      exact v_iret hX dX8_moveBatch_26 hR (Nat.le_of_ble_eq_true rfl) (Nat.le_of_ble_eq_true rfl) (⟨(by first | (rw [tw_mov, if_pos c_10, if_neg c_18]; done) | (rw [tw_mov, if_pos c_10, if_neg c_18]; rfl)), hw.to (by first | (rw [tw_mov, if_pos c_10, if_neg c_18]; done) | (rw [tw_mov, if_pos c_10, if_neg c_18]; rfl))⟩)
def tw_pt (v : Int32) (x : TS) : TS := (fun y => sI y 16 (y.1 16 + 4)) ((fun y => tU y 15 (y.1 16 + 3) (vp_nar .byte v.toInt8.toInt32)) ((fun y => tU y 15 (y.1 16 + 2) (vp_nar .byte (v >>> (8 &&& 31)).toInt8.toInt32)) ((fun y => tU y 15 (y.1 16 + 1) (vp_nar .byte (v >>> (16 &&& 31)).toInt8.toInt32)) (tU x 15 (x.1 16) (vp_nar .byte (v >>> (24 &&& 31)).toInt8.toInt32)))))
theorem b700 {a i : Int32} {n k : Nat} (h : a = nI n) (hi : i = nI k) (hn : n + k < 700) : vp_in (a + i) 700 := by rw [h, hi, nI_add]; exact vp_in_nI hn (by decide)
theorem b700z {a : Int32} {n : Nat} (h : a = nI n) (hn : n < 700) : vp_in a 700 := by rw [h]; exact vp_in_nI hn (by decide)
theorem pt_16 {v : Int32} {x : TS} {n : Nat} (h : x.1 16 = nI n) : (tw_pt v x).1 16 = nI (n + 4) := by
  show (sI _ 16 _).1 16 = _
  rw [sI_s]
  show x.1 16 + 4 = _
  rw [h, show (4 : Int32) = nI 4 from rfl, nI_add]
def tw_app2 (a b c d e : Int32) (x : TS) : Int32 × TS := (fun y => (y.1 16, y)) (tw_pt e (tw_pt d (tw_pt c (tw_pt b (tw_pt a x)))))
def tw_app (a b c d e : Int32) (x : TS) : Int32 × TS := if (tw_z x).1 16 + 20 ≤ 700 then tw_app2 a b c d e (tw_z x) else tw_f 1 x
def tw_trn (n : Int32) (x : TS) : TS := if 0 ≤ n ∧ n ≤ (tw_z x).1 16 then sI (tw_z x) 16 n else sI (tw_z x) 0 1
theorem a680 {a : Int32} {n : Nat} (h : a = nI n) (hn : n ≤ 700) (c : a + 20 ≤ 700) : n ≤ 680 := by
  rw [h, show (20 : Int32) = nI 20 from rfl, nI_add, show (700 : Int32) = nI 700 from rfl] at c
  have := (nI_leI (by omega) (by omega)).mp c
  omega
theorem cf_X8_put : CF RX8 yX8_put cX8_put 2 none 1 := ⟨q2109, qs41, q150, q2110, by decide +kernel⟩
theorem mX8_put {Γ : Gm} {l : Launch} {G : Nat → Nat} {wB : Wd} {x : TS} {w : Wd} (hw : tW Γ G wB x w) {n : Nat} (h16 : x.1 16 = nI n) (hn : n ≤ 696) (v : Int32) : M0 Γ l yX8_put (ws_ yX8_put cX8_put 2 none) (rl 0 0 0) 0 0 [.ref (G 61), .int v] w (fun r9 w9 => r9 = none ∧ tW Γ G wB (tw_pt v x) w9) := by
  refine M0.of (lv := [some (.ref (G 61)), some (.int v)]) (by decide) (Nat.le_of_ble_eq_true rfl) 0 rfl rfl ?_
  intro X hX hR hl hG hnm
  subst hl; subst hG
  refine v_aload_n hX dX8_put_0 rfl ?_
  refine tv_getA hX dX8_put_1 hw 15 (by decide) rfl q1924 ?_
  refine v_aload_n hX dX8_put_4 rfl ?_
  refine tv_getI hX dX8_put_5 hw 16 (by decide) rfl q1925 ?_
  refine v_iload_n hX dX8_put_8 rfl ?_
  refine v_bipush hX dX8_put_9 lb24 ?_
  refine v_ishr hX dX8_put_11 ?_
  refine v_i2b hX dX8_put_12 ?_
  refine tv_bast hX dX8_put_13 hw (by decide) rfl rfl (b700z h16 (by omega)) (fun w hw => ?_)
  refine v_aload_n hX dX8_put_14 rfl ?_
  refine tv_getA hX dX8_put_15 hw 15 (by decide) rfl q1924 ?_
  refine v_aload_n hX dX8_put_18 rfl ?_
  refine tv_getI hX dX8_put_19 hw 16 (by decide) rfl q1925 ?_
  refine v_iconst hX dX8_put_22 li1 ?_
  refine v_iadd hX dX8_put_23 ?_
  refine v_iload_n hX dX8_put_24 rfl ?_
  refine v_bipush hX dX8_put_25 lb16 ?_
  refine v_ishr hX dX8_put_27 ?_
  refine v_i2b hX dX8_put_28 ?_
  refine tv_bast hX dX8_put_29 hw (by decide) rfl rfl (b700 h16 (k := 1) rfl (by omega)) (fun w hw => ?_)
  refine v_aload_n hX dX8_put_30 rfl ?_
  refine tv_getA hX dX8_put_31 hw 15 (by decide) rfl q1924 ?_
  refine v_aload_n hX dX8_put_34 rfl ?_
  refine tv_getI hX dX8_put_35 hw 16 (by decide) rfl q1925 ?_
  refine v_iconst hX dX8_put_38 li2 ?_
  refine v_iadd hX dX8_put_39 ?_
  refine v_iload_n hX dX8_put_40 rfl ?_
  refine v_bipush hX dX8_put_41 lb8 ?_
  refine v_ishr hX dX8_put_43 ?_
  refine v_i2b hX dX8_put_44 ?_
  refine tv_bast hX dX8_put_45 hw (by decide) rfl rfl (b700 h16 (k := 2) rfl (by omega)) (fun w hw => ?_)
  refine v_aload_n hX dX8_put_46 rfl ?_
  refine tv_getA hX dX8_put_47 hw 15 (by decide) rfl q1924 ?_
  refine v_aload_n hX dX8_put_50 rfl ?_
  refine tv_getI hX dX8_put_51 hw 16 (by decide) rfl q1925 ?_
  refine v_iconst hX dX8_put_54 li3 ?_
  refine v_iadd hX dX8_put_55 ?_
  refine v_iload_n hX dX8_put_56 rfl ?_
  refine v_i2b hX dX8_put_57 ?_
  refine tv_bast hX dX8_put_58 hw (by decide) rfl rfl (b700 h16 (k := 3) rfl (by omega)) (fun w hw => ?_)
  refine v_aload_n hX dX8_put_59 rfl ?_
  refine v_dup hX dX8_put_60 rfl ?_
  refine tv_getI hX dX8_put_61 hw 16 (by decide) rfl q1925 ?_
  refine v_iconst hX dX8_put_64 li4 ?_
  refine v_iadd hX dX8_put_65 ?_
  refine tv_putI hX dX8_put_66 hw 16 (by decide) rfl q1925 rfl (by decide +kernel) (fun w hw => ?_)
  exact v_vret hX dX8_put_69 hR (Nat.le_of_ble_eq_true rfl) (Nat.le_of_ble_eq_true rfl) (⟨rfl, hw⟩)
theorem cf_X8_append : CF RX8 yX8_append cX8_append 6 (some .int) 5 := ⟨q2100, q2101, q150, q2102, by decide +kernel⟩
theorem mX8_append {Γ : Gm} {l : Launch} {G : Nat → Nat} {wB : Wd} {x : TS} {w : Wd} (hw : tW Γ G wB x w) (hB : tB16 x) (a b c d e : Int32) : M0 Γ l yX8_append (ws_ yX8_append cX8_append 6 (some .int)) (rl 1 0 0) 0 0 [.ref (G 61), .int a, .int b, .int c, .int d, .int e] w (fun r9 w9 => r9 = some (.int (tw_app a b c d e x).1) ∧ tW Γ G wB ((tw_app a b c d e x).2) w9) := by
  refine M0.of (lv := [some (.ref (G 61)), some (.int a), some (.int b), some (.int c), some (.int d), some (.int e)]) (by decide) (Nat.le_of_ble_eq_true rfl) 0 rfl rfl ?_
  intro X hX hR hl hG hnm
  subst hl; subst hG
  refine v_aload_n hX dX8_append_0 rfl ?_
  refine v_iconst hX dX8_append_1 li0 ?_
  refine tv_putI hX dX8_append_2 hw 0 (by decide) rfl q1909 rfl (by decide +kernel) (fun w hw => ?_)
  refine v_aload_n hX dX8_append_5 rfl ?_
  refine tv_getI hX dX8_append_6 hw 16 (by decide) rfl q1925 ?_
  refine v_bipush hX dX8_append_9 lb20 ?_
  refine v_iadd hX dX8_append_11 ?_
  refine v_sipush hX dX8_append_12 ls700 ?_
  refine v_icmp_le (tgt := 24) hX dX8_append_15 rfl (fun c_15 => ?_) (fun c_15 => ?_)
  · have e0 : (tw_z x).1 16 = nI (x.1 16).toNatClampNeg := hB.2
    have h680 := a680 e0 hB.1 c_15
    refine v_aload_n hX dX8_append_24 rfl ?_
    refine v_iload_n hX dX8_append_25 rfl ?_
    refine tv_call0 hX rfl dX8_append_26 q2107 cf_X8_put hw (mX8_put hw e0 (by omega) _) rfl ⟨rfl, rfl⟩ ⟨Nat.le_of_ble_eq_true rfl, Nat.le_of_ble_eq_true rfl⟩ rfl (Nat.le_of_ble_eq_true rfl) ⟨Nat.le_of_ble_eq_true rfl, Nat.le_of_ble_eq_true rfl⟩ (fun w hw => ?_)
    refine v_aload_n hX dX8_append_29 rfl ?_
    refine v_iload_n hX dX8_append_30 rfl ?_
    refine tv_call0 hX rfl dX8_append_31 q2107 cf_X8_put hw (mX8_put hw (pt_16 e0) (by omega) _) rfl ⟨rfl, rfl⟩ ⟨Nat.le_of_ble_eq_true rfl, Nat.le_of_ble_eq_true rfl⟩ rfl (Nat.le_of_ble_eq_true rfl) ⟨Nat.le_of_ble_eq_true rfl, Nat.le_of_ble_eq_true rfl⟩ (fun w hw => ?_)
    refine v_aload_n hX dX8_append_34 rfl ?_
    refine v_iload_n hX dX8_append_35 rfl ?_
    refine tv_call0 hX rfl dX8_append_36 q2107 cf_X8_put hw (mX8_put hw (pt_16 (pt_16 e0)) (by omega) _) rfl ⟨rfl, rfl⟩ ⟨Nat.le_of_ble_eq_true rfl, Nat.le_of_ble_eq_true rfl⟩ rfl (Nat.le_of_ble_eq_true rfl) ⟨Nat.le_of_ble_eq_true rfl, Nat.le_of_ble_eq_true rfl⟩ (fun w hw => ?_)
    refine v_aload_n hX dX8_append_39 rfl ?_
    refine v_iload hX dX8_append_40 rfl ?_
    refine tv_call0 hX rfl dX8_append_42 q2107 cf_X8_put hw (mX8_put hw (pt_16 (pt_16 (pt_16 e0))) (by omega) _) rfl ⟨rfl, rfl⟩ ⟨Nat.le_of_ble_eq_true rfl, Nat.le_of_ble_eq_true rfl⟩ rfl (Nat.le_of_ble_eq_true rfl) ⟨Nat.le_of_ble_eq_true rfl, Nat.le_of_ble_eq_true rfl⟩ (fun w hw => ?_)
    refine v_aload_n hX dX8_append_45 rfl ?_
    refine v_iload hX dX8_append_46 rfl ?_
    refine tv_call0 hX rfl dX8_append_48 q2107 cf_X8_put hw (mX8_put hw (pt_16 (pt_16 (pt_16 (pt_16 e0)))) (by omega) _) rfl ⟨rfl, rfl⟩ ⟨Nat.le_of_ble_eq_true rfl, Nat.le_of_ble_eq_true rfl⟩ rfl (Nat.le_of_ble_eq_true rfl) ⟨Nat.le_of_ble_eq_true rfl, Nat.le_of_ble_eq_true rfl⟩ (fun w hw => ?_)
    refine v_aload_n hX dX8_append_51 rfl ?_
    refine tv_getI hX dX8_append_52 hw 16 (by decide) rfl q1925 ?_
    exact v_iret hX dX8_append_55 hR (Nat.le_of_ble_eq_true rfl) (Nat.le_of_ble_eq_true rfl) (⟨(by first | (rw [tw_app, if_pos c_15]; done) | (rw [tw_app, if_pos c_15]; rfl)), hw.to (by first | (rw [tw_app, if_pos c_15]; done) | (rw [tw_app, if_pos c_15]; rfl))⟩)
  · refine v_aload_n hX dX8_append_18 rfl ?_
    refine v_iconst hX dX8_append_19 li1 ?_
    refine tv_callV hX rfl dX8_append_20 q2103 cf_X8_fails hw (mX8_fails hw _) rfl ⟨rfl, rfl⟩ ⟨Nat.le_of_ble_eq_true rfl, Nat.le_of_ble_eq_true rfl⟩ rfl (Nat.le_of_ble_eq_true rfl) ⟨Nat.le_of_ble_eq_true rfl, Nat.le_of_ble_eq_true rfl⟩ (fun w hw => ?_)
    exact v_iret hX dX8_append_23 hR (Nat.le_of_ble_eq_true rfl) (Nat.le_of_ble_eq_true rfl) (⟨(by first | (rw [tw_app, if_neg c_15]; done) | (rw [tw_app, if_neg c_15]; rfl)), hw.to (by first | (rw [tw_app, if_neg c_15]; done) | (rw [tw_app, if_neg c_15]; rfl))⟩)
theorem cf_X8_truncate : CF RX8 yX8_truncate cX8_truncate 2 none 1 := ⟨q2112, q2113, q150, q2114, by decide +kernel⟩
theorem mX8_truncate {Γ : Gm} {l : Launch} {G : Nat → Nat} {wB : Wd} {x : TS} {w : Wd} (hw : tW Γ G wB x w) (n : Int32) : M0 Γ l yX8_truncate (ws_ yX8_truncate cX8_truncate 2 none) (rl 1 0 0) 0 0 [.ref (G 61), .int n] w (fun r9 w9 => r9 = none ∧ tW Γ G wB (tw_trn n x) w9) := by
  refine M0.of (lv := [some (.ref (G 61)), some (.int n)]) (by decide) (Nat.le_of_ble_eq_true rfl) 0 rfl rfl ?_
  intro X hX hR hl hG hnm
  subst hl; subst hG
  refine v_aload_n hX dX8_truncate_0 rfl ?_
  refine v_iconst hX dX8_truncate_1 li0 ?_
  refine tv_putI hX dX8_truncate_2 hw 0 (by decide) rfl q1909 rfl (by decide +kernel) (fun w hw => ?_)
  refine v_iload_n hX dX8_truncate_5 rfl ?_
  refine v_iconst hX dX8_truncate_6 li0 ?_
  refine v_aload_n hX dX8_truncate_7 rfl ?_
  refine tv_getI hX dX8_truncate_8 hw 16 (by decide) rfl q1925 ?_
  refine v_callSr hX rfl dX8_truncate_11 q2115 cs_X8_isIn (mX8_isIn _ _ _) rfl ⟨rfl, rfl⟩ ⟨Nat.le_of_ble_eq_true rfl, Nat.le_of_ble_eq_true rfl⟩ rfl (Nat.le_of_ble_eq_true rfl) ⟨Nat.le_of_ble_eq_true rfl, Nat.le_of_ble_eq_true rfl⟩ ?_
  refine v_ifb_ne (tgt := 23) hX dX8_truncate_14 rfl (fun c_14 => ?_) (fun c_14 => ?_)
  · refine v_aload_n hX dX8_truncate_23 rfl ?_
    refine v_iload_n hX dX8_truncate_24 rfl ?_
    refine tv_putI hX dX8_truncate_25 hw 16 (by decide) rfl q1925 rfl (by decide +kernel) (fun w hw => ?_)
    exact v_vret hX dX8_truncate_28 hR (Nat.le_of_ble_eq_true rfl) (Nat.le_of_ble_eq_true rfl) (⟨rfl, hw.to (by first | (rw [tw_trn, if_pos c_14]; done) | (rw [tw_trn, if_pos c_14]; rfl))⟩)
  · refine v_aload_n hX dX8_truncate_17 rfl ?_
    refine v_iconst hX dX8_truncate_18 li1 ?_
    refine tv_putI hX dX8_truncate_19 hw 0 (by decide) rfl q1909 rfl (by decide +kernel) (fun w hw => ?_)
    exact v_vret hX dX8_truncate_22 hR (Nat.le_of_ble_eq_true rfl) (Nat.le_of_ble_eq_true rfl) (⟨rfl, hw.to (by first | (rw [tw_trn, if_neg c_14]; done) | (rw [tw_trn, if_neg c_14]; rfl))⟩)
end
