/-! the twin: rows of the plan -/
noncomputable section
set_option maxRecDepth 100000
theorem lb71 : (Int8.ofInt (71)).toInt32 = 71 := by decide +kernel
theorem lb73 : (Int8.ofInt (73)).toInt32 = 73 := by decide +kernel
theorem lb74 : (Int8.ofInt (74)).toInt32 = 74 := by decide +kernel
theorem lb75 : (Int8.ofInt (75)).toInt32 = 75 := by decide +kernel
theorem lb76 : (Int8.ofInt (76)).toInt32 = 76 := by decide +kernel
def tw_br1 (k : Nat) (x : TS) : TS := tU x 1 (70 + nI k) 0
def tw_cr1 (f t : Int32) (k : Nat) (x : TS) : TS := tU x 1 (70 * t + nI k) (tA x 1 (70 * f + nI k))
def tw_br_d (x : TS) : TS := tU (tU (tU (tU (tU (tU (it tw_br1 70 (sI (sI x 27 0) 28 0)) 1 70 1) 1 71 1) 1 73 5) 1 74 4) 1 75 5) 1 76 10
theorem tw_br_ex : ∃ g : TS → TS, ∀ x, g x = tw_br_d x := ⟨tw_br_d, fun _ => rfl⟩
noncomputable def tw_br : TS → TS := Classical.choose tw_br_ex
theorem tw_br_eq (x : TS) : tw_br x = tU (tU (tU (tU (tU (tU (it tw_br1 70 (sI (sI x 27 0) 28 0)) 1 70 1) 1 71 1) 1 73 5) 1 74 4) 1 75 5) 1 76 10 := Classical.choose_spec tw_br_ex x
def tw_cr_d (f t : Int32) (x : TS) : TS := it (tw_cr1 f t) 70 x
theorem tw_cr_ex : ∃ g : Int32 → Int32 → TS → TS, ∀ f t x, g f t x = tw_cr_d f t x := ⟨tw_cr_d, fun _ _ _ => rfl⟩
noncomputable def tw_cr : Int32 → Int32 → TS → TS := Classical.choose tw_cr_ex
theorem tw_cr_eq (f t : Int32) (x : TS) : tw_cr f t x = it (tw_cr1 f t) 70 x := Classical.choose_spec tw_cr_ex f t x
theorem i70k {k : Nat} (h : k < 70) : vp_in (70 + nI k) 840 := by
  rw [show (70 : Int32) = nI 70 from rfl, nI_add]
  exact vp_in_nI (by omega) (by decide)
theorem r70k {f : Int32} {k : Nat} (hf : vp_in f 12) (h : k < 70) : vp_in (70 * f + nI k) 840 := by
  obtain ⟨j, hj, rfl⟩ := vp_in_of hf (by decide)
  rw [show (70 : Int32) = nI 70 from rfl, pk_mul, nI_add]
  exact vp_in_nI (by omega) (by decide)
theorem cf_X8_beginReading : CF RX8 yX8_beginReading cX8_beginReading 2 none 0 := ⟨q1899, qs37, q150, q1900, by decide +kernel⟩
theorem mX8_beginReading {Γ : Gm} {l : Launch} {G : Nat → Nat} {wB : Wd} {x : TS} {w : Wd} (hw : tW Γ G wB x w)  : M0 Γ l yX8_beginReading (ws_ yX8_beginReading cX8_beginReading 2 none) (rl 0 0 0) 0 0 [.ref (G 61)] w (fun r9 w9 => r9 = none ∧ tW Γ G wB (tw_br x) w9) := by
  refine M0.of (lv := [some (.ref (G 61)), none]) (by decide) (Nat.le_of_ble_eq_true rfl) 1 rfl rfl ?_
  intro X hX hR hl hG hnm
  subst hl; subst hG
  refine v_aload_n hX dX8_beginReading_0 rfl ?_
  refine v_iconst hX dX8_beginReading_1 li0 ?_
  refine tv_putI hX dX8_beginReading_2 hw 27 (by decide) rfl q1936 rfl (by decide +kernel) (fun w hw => ?_)
  refine v_aload_n hX dX8_beginReading_5 rfl ?_
  refine v_iconst hX dX8_beginReading_6 li0 ?_
  refine tv_putI hX dX8_beginReading_7 hw 28 (by decide) rfl q1937 rfl (by decide +kernel) (fun w hw => ?_)
  obtain ⟨x1, hx1⟩ : ∃ z, z = sI (sI x 27 0) 28 0 := ⟨_, rfl⟩
  have hw : tW (xG X) G wB x1 w := hw.to hx1
  refine v_iconst hX dX8_beginReading_10 li0 ?_
  refine v_istore_n (lv' := [_, _]) hX dX8_beginReading_11 (Nat.le_of_ble_eq_true rfl) rfl rfl ?_
  refine loop_up (70) (fun i => ∀ w, tW (xG X) G wB ((it (tw_br1) (i) x1)) w → V X w 0 0 12 [some (.ref (G 61)), some (.int (nI (i)))] []) ?_ ?_ 0 (Nat.zero_le _) w hw
  · intro w hw
    obtain ⟨x2, hx2⟩ : ∃ z, z = it tw_br1 70 x1 := ⟨_, rfl⟩
    have hw : tW (xG X) G wB x2 w := hw.to hx2
    refine v_iload_n hX dX8_beginReading_12 rfl ?_
    refine v_bipush hX dX8_beginReading_13 lb70 ?_
    refine v_icmp_ge_t (tgt := 34) hX dX8_beginReading_15 rfl (by decide) ?_
    refine v_aload_n hX dX8_beginReading_34 rfl ?_
    refine tv_getA hX dX8_beginReading_35 hw 1 (by decide) rfl q1910 ?_
    refine v_bipush hX dX8_beginReading_38 lb70 ?_
    refine v_iconst hX dX8_beginReading_40 li1 ?_
    refine tv_iast hX dX8_beginReading_41 hw (by decide) rfl rfl (vin (by decide)) (fun w hw => ?_)
    refine v_aload_n hX dX8_beginReading_42 rfl ?_
    refine tv_getA hX dX8_beginReading_43 hw 1 (by decide) rfl q1910 ?_
    refine v_bipush hX dX8_beginReading_46 lb71 ?_
    refine v_iconst hX dX8_beginReading_48 li1 ?_
    refine tv_iast hX dX8_beginReading_49 hw (by decide) rfl rfl (vin (by decide)) (fun w hw => ?_)
    refine v_aload_n hX dX8_beginReading_50 rfl ?_
    refine tv_getA hX dX8_beginReading_51 hw 1 (by decide) rfl q1910 ?_
    refine v_bipush hX dX8_beginReading_54 lb73 ?_
    refine v_iconst hX dX8_beginReading_56 li5 ?_
    refine tv_iast hX dX8_beginReading_57 hw (by decide) rfl rfl (vin (by decide)) (fun w hw => ?_)
    refine v_aload_n hX dX8_beginReading_58 rfl ?_
    refine tv_getA hX dX8_beginReading_59 hw 1 (by decide) rfl q1910 ?_
    refine v_bipush hX dX8_beginReading_62 lb74 ?_
    refine v_iconst hX dX8_beginReading_64 li4 ?_
    refine tv_iast hX dX8_beginReading_65 hw (by decide) rfl rfl (vin (by decide)) (fun w hw => ?_)
    refine v_aload_n hX dX8_beginReading_66 rfl ?_
    refine tv_getA hX dX8_beginReading_67 hw 1 (by decide) rfl q1910 ?_
    refine v_bipush hX dX8_beginReading_70 lb75 ?_
    refine v_iconst hX dX8_beginReading_72 li5 ?_
    refine tv_iast hX dX8_beginReading_73 hw (by decide) rfl rfl (vin (by decide)) (fun w hw => ?_)
    refine v_aload_n hX dX8_beginReading_74 rfl ?_
    refine tv_getA hX dX8_beginReading_75 hw 1 (by decide) rfl q1910 ?_
    refine v_bipush hX dX8_beginReading_78 lb76 ?_
    refine v_bipush hX dX8_beginReading_80 lb10 ?_
    refine tv_iast hX dX8_beginReading_82 hw (by decide) rfl rfl (vin (by decide)) (fun w hw => ?_)
    exact v_vret hX dX8_beginReading_83 hR (Nat.le_of_ble_eq_true rfl) (Nat.le_of_ble_eq_true rfl) (⟨rfl, hw.to (by rw [tw_br_eq, ← hx1, ← hx2])⟩)
  · intro i hi ih w hw
    have ih : ∀ w, tW (xG X) G wB (((tw_br1) i (it (tw_br1) (i) x1))) w → V X w 0 0 12 [some (.ref (G 61)), some (.int (nI (i + 1)))] [] := ih
    generalize (it (tw_br1) (i) x1) = y at hw ih
    refine v_iload_n hX dX8_beginReading_12 rfl ?_
    refine v_bipush hX dX8_beginReading_13 lb70 ?_
    refine v_icmp_ge_f (tgt := 34) hX dX8_beginReading_15 rfl (ge_s (N := 70) rfl hi (by decide)) ?_
    refine v_aload_n hX dX8_beginReading_18 rfl ?_
    refine tv_getA hX dX8_beginReading_19 hw 1 (by decide) rfl q1910 ?_
    refine v_bipush hX dX8_beginReading_22 lb70 ?_
    refine v_iload_n hX dX8_beginReading_24 rfl ?_
    refine v_iadd hX dX8_beginReading_25 ?_
    refine v_iconst hX dX8_beginReading_26 li0 ?_
    refine tv_iast hX dX8_beginReading_27 hw (by decide) rfl rfl (i70k hi) (fun w hw => ?_)
    refine v_iinc (lv' := [_, _]) hX dX8_beginReading_28 rfl li1 rfl rfl ?_
    refine v_goto (tgt := 12) hX dX8_beginReading_31 rfl ?_
    exact V.at rfl (by rw [nI_1]) rfl (ih w (hw.to (by first | (rw [tw_br1]; done) | (rw [tw_br1]; rfl))))
theorem cf_X8_copyRow : CF RX8 yX8_copyRow cX8_copyRow 4 none 2 := ⟨q1907, qs39, q150, q1908, by decide +kernel⟩
theorem mX8_copyRow {Γ : Gm} {l : Launch} {G : Nat → Nat} {wB : Wd} {x : TS} {w : Wd} (hw : tW Γ G wB x w) (f t : Int32) (hf : vp_in f 12) (ht : vp_in t 12) : M0 Γ l yX8_copyRow (ws_ yX8_copyRow cX8_copyRow 4 none) (rl 0 0 0) 0 0 [.ref (G 61), .int f, .int t] w (fun r9 w9 => r9 = none ∧ tW Γ G wB (tw_cr f t x) w9) := by
  refine M0.of (lv := [some (.ref (G 61)), some (.int f), some (.int t), none]) (by decide) (Nat.le_of_ble_eq_true rfl) 1 rfl rfl ?_
  intro X hX hR hl hG hnm
  subst hl; subst hG
  refine v_iconst hX dX8_copyRow_0 li0 ?_
  refine v_istore_n (lv' := [_, _, _, _]) hX dX8_copyRow_1 (Nat.le_of_ble_eq_true rfl) rfl rfl ?_
  refine loop_up (70) (fun i => ∀ w, tW (xG X) G wB ((it (tw_cr1 f t) (i) x)) w → V X w 0 0 2 [some (.ref (G 61)), some (.int f), some (.int t), some (.int (nI (i)))] []) ?_ ?_ 0 (Nat.zero_le _) w hw
  · intro w hw
    refine v_iload_n hX dX8_copyRow_2 rfl ?_
    refine v_bipush hX dX8_copyRow_3 lb70 ?_
    refine v_icmp_ge_t (tgt := 36) hX dX8_copyRow_5 rfl (by decide) ?_
    exact v_vret hX dX8_copyRow_36 hR (Nat.le_of_ble_eq_true rfl) (Nat.le_of_ble_eq_true rfl) (⟨rfl, hw.to (tw_cr_eq f t x)⟩)
  · intro i hi ih w hw
    have ih : ∀ w, tW (xG X) G wB (((tw_cr1 f t) i (it (tw_cr1 f t) (i) x))) w → V X w 0 0 2 [some (.ref (G 61)), some (.int f), some (.int t), some (.int (nI (i + 1)))] [] := ih
    generalize (it (tw_cr1 f t) (i) x) = y at hw ih
    refine v_iload_n hX dX8_copyRow_2 rfl ?_
    refine v_bipush hX dX8_copyRow_3 lb70 ?_
    refine v_icmp_ge_f (tgt := 36) hX dX8_copyRow_5 rfl (ge_s (N := 70) rfl hi (by decide)) ?_
    refine v_aload_n hX dX8_copyRow_8 rfl ?_
    refine tv_getA hX dX8_copyRow_9 hw 1 (by decide) rfl q1910 ?_
    refine v_bipush hX dX8_copyRow_12 lb70 ?_
    refine v_iload_n hX dX8_copyRow_14 rfl ?_
    refine v_imul hX dX8_copyRow_15 ?_
    refine v_iload_n hX dX8_copyRow_16 rfl ?_
    refine v_iadd hX dX8_copyRow_17 ?_
    refine v_aload_n hX dX8_copyRow_18 rfl ?_
    refine tv_getA hX dX8_copyRow_19 hw 1 (by decide) rfl q1910 ?_
    refine v_bipush hX dX8_copyRow_22 lb70 ?_
    refine v_iload_n hX dX8_copyRow_24 rfl ?_
    refine v_imul hX dX8_copyRow_25 ?_
    refine v_iload_n hX dX8_copyRow_26 rfl ?_
    refine v_iadd hX dX8_copyRow_27 ?_
    refine tv_iald hX dX8_copyRow_28 hw (by decide) rfl rfl (r70k hf hi) ?_
    refine tv_iast hX dX8_copyRow_29 hw (by decide) rfl rfl (r70k ht hi) (fun w hw => ?_)
    refine v_iinc (lv' := [_, _, _, _]) hX dX8_copyRow_30 rfl li1 rfl rfl ?_
    refine v_goto (tgt := 2) hX dX8_copyRow_33 rfl ?_
    exact V.at rfl (by rw [nI_1]) rfl (ih w (hw.to (by first | (rw [tw_cr1]; done) | (rw [tw_cr1]; rfl))))
def tw_kr1 (p : Nat) (x : TS) : TS :=
  (fun x => tU x 11 (nI p) (tA x 29 (6 * nI p + 5))) ((fun x => tU x 10 (nI p) (tA x 29 (6 * nI p + 4))) ((fun x => tU x 9 (nI p) (tA x 29 (6 * nI p + 3))) ((fun x => tU x 8 (nI p) (tA x 29 (6 * nI p + 2))) ((fun x => tU x 7 (nI p) (tA x 29 (6 * nI p + 1))) ((fun x => tU x 6 (nI p) (tA x 29 (6 * nI p))) (tV x 12 (nI p) (x.2.2.2 30 (nI p).toNatClampNeg)))))))
def tw_kr2 (p : Nat) (x : TS) : TS := tU x 14 (nI p) (tA x 31 (nI p))
def tw_kra (x : TS) : TS := it tw_kr1 (np x) (sI (sI x 5 (x.1 27)) 13 (x.1 28))
def tw_krb (x : TS) : TS := it tw_kr2 (nw x) (tw_kra x)
def tw_keep_d (x : TS) : TS := sI (sI (tw_cr 1 0 (tw_krb x)) 3 0) 4 0
theorem tw_keep_ex : ∃ g : TS → TS, ∀ x, g x = tw_keep_d x := ⟨tw_keep_d, fun _ => rfl⟩
noncomputable def tw_keep : TS → TS := Classical.choose tw_keep_ex
theorem tw_keep_eq (x : TS) : tw_keep x = sI (sI (tw_cr 1 0 (tw_krb x)) 3 0) 4 0 := Classical.choose_spec tw_keep_ex x
theorem kr1_j (j : Nat) (i : Nat) (y : TS) : (tw_kr1 i y).1 j = y.1 j := rfl
theorem kr2_j (j : Nat) (i : Nat) (y : TS) : (tw_kr2 i y).1 j = y.1 j := rfl
theorem p48 {p k : Nat} (h : p < 8) (hk : k < 6) : vp_in (6 * nI p + nI k) 48 := by
  rw [show (6 : Int32) = nI 6 from rfl, pk_mul, nI_add]
  exact vp_in_nI (by omega) (by decide)
theorem cf_X8_keepReading : CF RX8 yX8_keepReading cX8_keepReading 2 none 0 := ⟨q1903, qs38, q150, q1904, by decide +kernel⟩
theorem mX8_keepReading {Γ : Gm} {l : Launch} {G : Nat → Nat} {wB : Wd} {x : TS} {w : Wd} (hw : tW Γ G wB x w) (hr : tR x) : M0 Γ l yX8_keepReading (ws_ yX8_keepReading cX8_keepReading 2 none) (rl 1 0 0) 0 0 [.ref (G 61)] w (fun r9 w9 => r9 = none ∧ tW Γ G wB (tw_keep x) w9) := by
  refine M0.of (lv := [some (.ref (G 61)), none]) (by decide) (Nat.le_of_ble_eq_true rfl) 1 rfl rfl ?_
  intro X hX hR hl hG hnm
  subst hl; subst hG
  refine v_aload_n hX dX8_keepReading_0 rfl ?_
  refine v_aload_n hX dX8_keepReading_1 rfl ?_
  refine tv_getI hX dX8_keepReading_2 hw 27 (by decide) rfl q1936 ?_
  refine tv_putI hX dX8_keepReading_5 hw 5 (by decide) rfl q1914 rfl (by decide +kernel) (fun w hw => ?_)
  refine v_aload_n hX dX8_keepReading_8 rfl ?_
  refine v_aload_n hX dX8_keepReading_9 rfl ?_
  refine tv_getI hX dX8_keepReading_10 hw 28 (by decide) rfl q1937 ?_
  refine tv_putI hX dX8_keepReading_13 hw 13 (by decide) rfl q1922 rfl (by decide +kernel) (fun w hw => ?_)
  obtain ⟨x1, hx1⟩ : ∃ z, z = sI (sI x 5 (x.1 27)) 13 (x.1 28) := ⟨_, rfl⟩
  have hw : tW (xG X) G wB x1 w := hw.to hx1
  have e5 : x1.1 5 = nI (np x) := by rw [hx1, sI_n (by decide), sI_s]; exact hr.2.1
  have e13 : x1.1 13 = nI (nw x) := by rw [hx1, sI_s]; exact hr.2.2.2.1
  refine v_iconst hX dX8_keepReading_16 li0 ?_
  refine v_istore_n (lv' := [_, _]) hX dX8_keepReading_17 (Nat.le_of_ble_eq_true rfl) rfl rfl ?_
  refine loop_up (np x) (fun i => ∀ w, tW (xG X) G wB ((it (tw_kr1) (i) x1)) w → V X w 0 0 18 [some (.ref (G 61)), some (.int (nI (i)))] []) ?_ ?_ 0 (Nat.zero_le _) w hw
  · intro w hw
    obtain ⟨x2, hx2⟩ : ∃ z, z = it tw_kr1 (np x) x1 := ⟨_, rfl⟩
    have hw : tW (xG X) G wB x2 w := hw.to hx2
    have e13 : x2.1 13 = nI (nw x) := by rw [hx2]; exact (it_keep (fun y : TS => y.1 13) (kr1_j 13) (np x) x1).trans e13
    refine v_iload_n hX dX8_keepReading_18 rfl ?_
    refine v_aload_n hX dX8_keepReading_19 rfl ?_
    refine tv_getI hX dX8_keepReading_20 hw 5 (by decide) rfl q1914 ?_
    refine v_icmp_ge_t (tgt := 144) hX dX8_keepReading_23 rfl (ge_x (by rw [hx2]; exact (it_keep (fun y : TS => y.1 5) (kr1_j 5) (np x) x1).trans e5) rfl) ?_
    refine v_iconst hX dX8_keepReading_144 li0 ?_
    refine v_istore_n (lv' := [_, _]) hX dX8_keepReading_145 (Nat.le_of_ble_eq_true rfl) rfl rfl ?_
    refine loop_up (nw x) (fun i => ∀ w, tW (xG X) G wB ((it (tw_kr2) (i) x2)) w → V X w 0 0 146 [some (.ref (G 61)), some (.int (nI (i)))] []) ?_ ?_ 0 (Nat.zero_le _) w hw
    · intro w hw
      obtain ⟨x3, hx3⟩ : ∃ z, z = it tw_kr2 (nw x) x2 := ⟨_, rfl⟩
      have hw : tW (xG X) G wB x3 w := hw.to hx3
      refine v_iload_n hX dX8_keepReading_146 rfl ?_
      refine v_aload_n hX dX8_keepReading_147 rfl ?_
      refine tv_getI hX dX8_keepReading_148 hw 13 (by decide) rfl q1922 ?_
      refine v_icmp_ge_t (tgt := 172) hX dX8_keepReading_151 rfl (ge_x (by rw [hx3]; exact (it_keep (fun y : TS => y.1 13) (kr2_j 13) (nw x) x2).trans e13) rfl) ?_
      refine v_aload_n hX dX8_keepReading_172 rfl ?_
      refine v_iconst hX dX8_keepReading_173 li1 ?_
      refine v_iconst hX dX8_keepReading_174 li0 ?_
      refine tv_call0 hX rfl dX8_keepReading_175 q1905 cf_X8_copyRow hw (mX8_copyRow hw _ _ (vin (by decide)) (vin (by decide))) rfl ⟨rfl, rfl⟩ ⟨Nat.le_of_ble_eq_true rfl, Nat.le_of_ble_eq_true rfl⟩ rfl (Nat.le_of_ble_eq_true rfl) ⟨Nat.le_of_ble_eq_true rfl, Nat.le_of_ble_eq_true rfl⟩ (fun w hw => ?_)
      refine v_aload_n hX dX8_keepReading_178 rfl ?_
      refine v_iconst hX dX8_keepReading_179 li0 ?_
      refine tv_putI hX dX8_keepReading_180 hw 3 (by decide) rfl q1912 rfl (by decide +kernel) (fun w hw => ?_)
      refine v_aload_n hX dX8_keepReading_183 rfl ?_
      refine v_iconst hX dX8_keepReading_184 li0 ?_
      refine tv_putI hX dX8_keepReading_185 hw 4 (by decide) rfl q1913 rfl (by decide +kernel) (fun w hw => ?_)
      exact v_vret hX dX8_keepReading_188 hR (Nat.le_of_ble_eq_true rfl) (Nat.le_of_ble_eq_true rfl) (⟨rfl, hw.to (by rw [tw_keep_eq, tw_krb, tw_kra, ← hx1, ← hx2, ← hx3])⟩)
    · intro i hi ih w hw
      have ih : ∀ w, tW (xG X) G wB (((tw_kr2) i (it (tw_kr2) (i) x2))) w → V X w 0 0 146 [some (.ref (G 61)), some (.int (nI (i + 1)))] [] := ih
      have hi6 : i < 6 := Nat.lt_of_lt_of_le hi hr.2.2.1
      have he : (it tw_kr2 i x2).1 13 = nI (nw x) := (it_keep (fun y : TS => y.1 13) (kr2_j 13) i x2).trans e13
      generalize (it (tw_kr2) (i) x2) = y at hw ih he
      refine v_iload_n hX dX8_keepReading_146 rfl ?_
      refine v_aload_n hX dX8_keepReading_147 rfl ?_
      refine tv_getI hX dX8_keepReading_148 hw 13 (by decide) rfl q1922 ?_
      refine v_icmp_ge_f (tgt := 172) hX dX8_keepReading_151 rfl (ge_s he hi (Nat.le_trans hr.2.2.1 (by decide))) ?_
      refine v_aload_n hX dX8_keepReading_154 rfl ?_
      refine tv_getA hX dX8_keepReading_155 hw 14 (by decide) rfl q1923 ?_
      refine v_iload_n hX dX8_keepReading_158 rfl ?_
      refine v_aload_n hX dX8_keepReading_159 rfl ?_
      refine tv_getA hX dX8_keepReading_160 hw 31 (by decide) rfl q1940 ?_
      refine v_iload_n hX dX8_keepReading_163 rfl ?_
      refine tv_iald hX dX8_keepReading_164 hw (by decide) rfl rfl (vnI hi6 (by decide)) ?_
      refine tv_iast hX dX8_keepReading_165 hw (by decide) rfl rfl (vnI hi6 (by decide)) (fun w hw => ?_)
      refine v_iinc (lv' := [_, _]) hX dX8_keepReading_166 rfl li1 rfl rfl ?_
      refine v_goto (tgt := 146) hX dX8_keepReading_169 rfl ?_
      exact V.at rfl (by rw [nI_1]) rfl (ih w (hw.to (by first | (rw [tw_kr2]; done) | (rw [tw_kr2]; rfl))))
  · intro i hi ih w hw
    have ih : ∀ w, tW (xG X) G wB (((tw_kr1) i (it (tw_kr1) (i) x1))) w → V X w 0 0 18 [some (.ref (G 61)), some (.int (nI (i + 1)))] [] := ih
    have hi8 : i < 8 := Nat.lt_of_lt_of_le hi hr.1
    have he : (it tw_kr1 i x1).1 5 = nI (np x) := (it_keep (fun y : TS => y.1 5) (kr1_j 5) i x1).trans e5
    generalize (it (tw_kr1) (i) x1) = y at hw ih he
    refine v_iload_n hX dX8_keepReading_18 rfl ?_
    refine v_aload_n hX dX8_keepReading_19 rfl ?_
    refine tv_getI hX dX8_keepReading_20 hw 5 (by decide) rfl q1914 ?_
    refine v_icmp_ge_f (tgt := 144) hX dX8_keepReading_23 rfl (ge_s he hi (Nat.le_trans hr.1 (by decide))) ?_
    refine v_aload_n hX dX8_keepReading_26 rfl ?_
    refine tv_getA hX dX8_keepReading_27 hw 12 (by decide) rfl q1921 ?_
    refine v_iload_n hX dX8_keepReading_30 rfl ?_
    refine v_aload_n hX dX8_keepReading_31 rfl ?_
    refine tv_getA hX dX8_keepReading_32 hw 30 (by decide) rfl q1939 ?_
    refine v_iload_n hX dX8_keepReading_35 rfl ?_
    refine tv_lald hX dX8_keepReading_36 hw (by decide) rfl rfl (vnI hi8 (by decide)) ?_
    refine tv_last hX dX8_keepReading_37 hw (by decide) rfl rfl (vnI hi8 (by decide)) (fun w hw => ?_)
    refine v_aload_n hX dX8_keepReading_38 rfl ?_
    refine tv_getA hX dX8_keepReading_39 hw 6 (by decide) rfl q1915 ?_
    refine v_iload_n hX dX8_keepReading_42 rfl ?_
    refine v_aload_n hX dX8_keepReading_43 rfl ?_
    refine tv_getA hX dX8_keepReading_44 hw 29 (by decide) rfl q1938 ?_
    refine v_bipush hX dX8_keepReading_47 lb6 ?_
    refine v_iload_n hX dX8_keepReading_49 rfl ?_
    refine v_imul hX dX8_keepReading_50 ?_
    refine tv_iald hX dX8_keepReading_51 hw (by decide) rfl rfl (n48z (vnI hi8 (by decide))) ?_
    refine tv_iast hX dX8_keepReading_52 hw (by decide) rfl rfl (vnI hi8 (by decide)) (fun w hw => ?_)
    refine v_aload_n hX dX8_keepReading_53 rfl ?_
    refine tv_getA hX dX8_keepReading_54 hw 7 (by decide) rfl q1916 ?_
    refine v_iload_n hX dX8_keepReading_57 rfl ?_
    refine v_aload_n hX dX8_keepReading_58 rfl ?_
    refine tv_getA hX dX8_keepReading_59 hw 29 (by decide) rfl q1938 ?_
    refine v_bipush hX dX8_keepReading_62 lb6 ?_
    refine v_iload_n hX dX8_keepReading_64 rfl ?_
    refine v_imul hX dX8_keepReading_65 ?_
    refine v_iconst hX dX8_keepReading_66 li1 ?_
    refine v_iadd hX dX8_keepReading_67 ?_
    refine tv_iald hX dX8_keepReading_68 hw (by decide) rfl rfl (n48 (vnI hi8 (by decide)) (vin (by decide))) ?_
    refine tv_iast hX dX8_keepReading_69 hw (by decide) rfl rfl (vnI hi8 (by decide)) (fun w hw => ?_)
    refine v_aload_n hX dX8_keepReading_70 rfl ?_
    refine tv_getA hX dX8_keepReading_71 hw 8 (by decide) rfl q1917 ?_
    refine v_iload_n hX dX8_keepReading_74 rfl ?_
    refine v_aload_n hX dX8_keepReading_75 rfl ?_
    refine tv_getA hX dX8_keepReading_76 hw 29 (by decide) rfl q1938 ?_
    refine v_bipush hX dX8_keepReading_79 lb6 ?_
    refine v_iload_n hX dX8_keepReading_81 rfl ?_
    refine v_imul hX dX8_keepReading_82 ?_
    refine v_iconst hX dX8_keepReading_83 li2 ?_
    refine v_iadd hX dX8_keepReading_84 ?_
    refine tv_iald hX dX8_keepReading_85 hw (by decide) rfl rfl (n48 (vnI hi8 (by decide)) (vin (by decide))) ?_
    refine tv_iast hX dX8_keepReading_86 hw (by decide) rfl rfl (vnI hi8 (by decide)) (fun w hw => ?_)
    refine v_aload_n hX dX8_keepReading_87 rfl ?_
    refine tv_getA hX dX8_keepReading_88 hw 9 (by decide) rfl q1918 ?_
    refine v_iload_n hX dX8_keepReading_91 rfl ?_
    refine v_aload_n hX dX8_keepReading_92 rfl ?_
    refine tv_getA hX dX8_keepReading_93 hw 29 (by decide) rfl q1938 ?_
    refine v_bipush hX dX8_keepReading_96 lb6 ?_
    refine v_iload_n hX dX8_keepReading_98 rfl ?_
    refine v_imul hX dX8_keepReading_99 ?_
    refine v_iconst hX dX8_keepReading_100 li3 ?_
    refine v_iadd hX dX8_keepReading_101 ?_
    refine tv_iald hX dX8_keepReading_102 hw (by decide) rfl rfl (n48 (vnI hi8 (by decide)) (vin (by decide))) ?_
    refine tv_iast hX dX8_keepReading_103 hw (by decide) rfl rfl (vnI hi8 (by decide)) (fun w hw => ?_)
    refine v_aload_n hX dX8_keepReading_104 rfl ?_
    refine tv_getA hX dX8_keepReading_105 hw 10 (by decide) rfl q1919 ?_
    refine v_iload_n hX dX8_keepReading_108 rfl ?_
    refine v_aload_n hX dX8_keepReading_109 rfl ?_
    refine tv_getA hX dX8_keepReading_110 hw 29 (by decide) rfl q1938 ?_
    refine v_bipush hX dX8_keepReading_113 lb6 ?_
    refine v_iload_n hX dX8_keepReading_115 rfl ?_
    refine v_imul hX dX8_keepReading_116 ?_
    refine v_iconst hX dX8_keepReading_117 li4 ?_
    refine v_iadd hX dX8_keepReading_118 ?_
    refine tv_iald hX dX8_keepReading_119 hw (by decide) rfl rfl (n48 (vnI hi8 (by decide)) (vin (by decide))) ?_
    refine tv_iast hX dX8_keepReading_120 hw (by decide) rfl rfl (vnI hi8 (by decide)) (fun w hw => ?_)
    refine v_aload_n hX dX8_keepReading_121 rfl ?_
    refine tv_getA hX dX8_keepReading_122 hw 11 (by decide) rfl q1920 ?_
    refine v_iload_n hX dX8_keepReading_125 rfl ?_
    refine v_aload_n hX dX8_keepReading_126 rfl ?_
    refine tv_getA hX dX8_keepReading_127 hw 29 (by decide) rfl q1938 ?_
    refine v_bipush hX dX8_keepReading_130 lb6 ?_
    refine v_iload_n hX dX8_keepReading_132 rfl ?_
    refine v_imul hX dX8_keepReading_133 ?_
    refine v_iconst hX dX8_keepReading_134 li5 ?_
    refine v_iadd hX dX8_keepReading_135 ?_
    refine tv_iald hX dX8_keepReading_136 hw (by decide) rfl rfl (n48 (vnI hi8 (by decide)) (vin (by decide))) ?_
    refine tv_iast hX dX8_keepReading_137 hw (by decide) rfl rfl (vnI hi8 (by decide)) (fun w hw => ?_)
    refine v_iinc (lv' := [_, _]) hX dX8_keepReading_138 rfl li1 rfl rfl ?_
    refine v_goto (tgt := 18) hX dX8_keepReading_141 rfl ?_
    exact V.at rfl (by rw [nI_1]) rfl (ih w hw)
end
