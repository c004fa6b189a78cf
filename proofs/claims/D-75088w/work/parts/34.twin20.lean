/-! the twin: formatted text -/
noncomputable section
set_option maxRecDepth 100000
def tw_say (c : Int32) (x : TS) : TS := (fun y => sI y 19 (y.1 19 + 1)) (tU x 18 (x.1 19) (vp_nar .char c))
theorem say_19 {c : Int32} {x : TS} {n : Nat} (h : x.1 19 = nI n) : (tw_say c x).1 19 = nI (n + 1) := by
  show (sI _ 19 _).1 19 = _
  rw [sI_s]
  show x.1 19 + 1 = _
  rw [h, nI_1]
theorem b60 {a : Int32} {n : Nat} (h : a = nI n) (hn : n < 60) : vp_in a 60 := by rw [h]; exact vp_in_nI hn (by decide)
def tw_fch (i : Int32) (x : TS) : Int32 × TS := if 0 ≤ i ∧ i ≤ (tw_z x).1 19 - 1 then (tA (tw_z x) 18 i, tw_z x) else tw_f 1 x
/-- how many digits -/
def dg (n : Nat) : Nat := if n < 10 then 1 else if n < 100 then 2 else if n < 1000 then 3 else 4
theorem dg_c {n : Nat} (h : n < 10000) : (dg n = 1 ∧ n < 10) ∨ (dg n = 2 ∧ 10 ≤ n ∧ n < 100) ∨ (dg n = 3 ∧ 100 ≤ n ∧ n < 1000) ∨ (dg n = 4 ∧ 1000 ≤ n) := by
  unfold dg
  split
  · exact Or.inl ⟨rfl, by omega⟩
  · split
    · exact Or.inr (Or.inl ⟨rfl, by omega, by omega⟩)
    · split
      · exact Or.inr (Or.inr (Or.inl ⟨rfl, by omega, by omega⟩))
      · exact Or.inr (Or.inr (Or.inr ⟨rfl, by omega⟩))
theorem p10 {i : Nat} (h : i ≤ 3) : 1 ≤ 10 ^ i ∧ 10 ^ i ≤ 1000 := by
  rcases (show i = 0 ∨ i = 1 ∨ i = 2 ∨ i = 3 by omega) with rfl | rfl | rfl | rfl <;> decide
theorem dg_x {n : Nat} (h : n < 10000) : nI n / nI (10 ^ (dg n - 1)) ≤ 9 := by
  have hp := p10 (i := dg n - 1) (by rcases dg_c h with q | q | q | q <;> omega)
  rw [pk_div (by omega) (by omega) (by omega), show (9 : Int32) = nI 9 from rfl]
  refine nI_le ?_ (by decide)
  rcases dg_c h with q | q | q | q <;> rw [q.1] <;> simp <;> omega
theorem dg_s {n i : Nat} (h : n < 10000) (hi : i < dg n - 1) : ¬ nI n / nI (10 ^ i) ≤ 9 := by
  have hp := p10 (i := i) (by rcases dg_c h with q | q | q | q <;> omega)
  rw [pk_div (by omega) (by omega) (by omega), show (9 : Int32) = nI 9 from rfl]
  refine nI_ge ?_ (Nat.lt_of_le_of_lt (Nat.div_le_self _ _) (by omega))
  rcases dg_c h with q | q | q | q
  · omega
  · rcases (show i = 0 by omega) with rfl; simp; omega
  · rcases (show i = 0 ∨ i = 1 by omega) with rfl | rfl <;> simp <;> omega
  · rcases (show i = 0 ∨ i = 1 ∨ i = 2 by omega) with rfl | rfl | rfl <;> simp <;> omega
/-- the digit at place i from the left, as a character -/
def tw_dc (n i : Nat) : Int32 := ((48 + (nI n / nI (10 ^ (dg n - 1) / 10 ^ i) - nI n / nI (10 ^ (dg n - 1) / 10 ^ i) / 10 * 10)).toUInt32 % 65536).toInt32
def tw_sn (n : Nat) (x : TS) : TS := it (fun i y => tw_say (tw_dc n i) y) (dg n) x
theorem dg_le {n : Nat} (h : n < 10000) : dg n ≤ 4 ∧ 1 ≤ dg n := by rcases dg_c h with q | q | q | q <;> omega
theorem un_pos {n i : Nat} (h : n < 10000) (hi : i < dg n) : 1 ≤ 10 ^ (dg n - 1) / 10 ^ i ∧ 10 ^ (dg n - 1) / 10 ^ i ≤ 1000 := by
  have h4 := dg_le h
  rw [Nat.pow_div (by omega) (by decide)]
  exact p10 (by omega)
theorem un_end {n : Nat} (h : n < 10000) : 10 ^ (dg n - 1) / 10 ^ dg n = 0 := by
  have h4 := dg_le h
  exact Nat.div_eq_of_lt (Nat.pow_lt_pow_right (by decide) (by omega))
theorem un_s {n i : Nat} (h : n < 10000) (hi : i < dg n) : nI (10 ^ (dg n - 1) / 10 ^ i) / 10 = nI (10 ^ (dg n - 1) / 10 ^ (i + 1)) := by
  have := un_pos h hi
  rw [show (10 : Int32) = nI 10 from rfl, pk_div (by omega) (by decide) (by decide), Nat.div_div_eq_div_mul, ← Nat.pow_succ]
theorem say_it {F : Nat → Int32} {x : TS} {L : Nat} (h : x.1 19 = nI L) : ∀ i, (it (fun i y => tw_say (F i) y) i x).1 19 = nI (L + i)
  | 0 => h
  | i + 1 => say_19 (say_it h i)
theorem cf_X8_say : CF RX8 yX8_say cX8_say 2 none 1 := ⟨q2627, qs118, q150, q2628, by decide +kernel⟩
theorem mX8_say {Γ : Gm} {l : Launch} {G : Nat → Nat} {wB : Wd} {x : TS} {w : Wd} (hw : tW Γ G wB x w) {n : Nat} (h : x.1 19 = nI n) (hn : n < 60) (c : Int32) : M0 Γ l yX8_say (ws_ yX8_say cX8_say 2 none) (rl 0 0 0) 0 0 [.ref (G 61), .int c] w (fun r9 w9 => r9 = none ∧ tW Γ G wB (tw_say c x) w9) := by
  refine M0.of (lv := [some (.ref (G 61)), some (.int c)]) (by decide) (Nat.le_of_ble_eq_true rfl) 0 rfl rfl ?_
  intro X hX hR hl hG hnm
  subst hl; subst hG
  refine v_aload_n hX dX8_say_0 rfl ?_
  refine tv_getA hX dX8_say_1 hw 18 (by decide) rfl q1927 ?_
  refine v_aload_n hX dX8_say_4 rfl ?_
  refine tv_getI hX dX8_say_5 hw 19 (by decide) rfl q1928 ?_
  refine v_iload_n hX dX8_say_8 rfl ?_
  refine tv_cast hX dX8_say_9 hw (by decide) rfl rfl (b60 h hn) (fun w hw => ?_)
  refine v_aload_n hX dX8_say_10 rfl ?_
  refine v_dup hX dX8_say_11 rfl ?_
  refine tv_getI hX dX8_say_12 hw 19 (by decide) rfl q1928 ?_
  refine v_iconst hX dX8_say_15 li1 ?_
  refine v_iadd hX dX8_say_16 ?_
  refine tv_putI hX dX8_say_17 hw 19 (by decide) rfl q1928 rfl (by decide +kernel) (fun w hw => ?_)
  exact v_vret hX dX8_say_20 hR (Nat.le_of_ble_eq_true rfl) (Nat.le_of_ble_eq_true rfl) (⟨rfl, hw⟩)
theorem cf_X8_sayNumber : CF RX8 yX8_sayNumber cX8_sayNumber 3 none 1 := ⟨q2635, qs120, q150, q2636, by decide +kernel⟩
theorem mX8_sayNumber {Γ : Gm} {l : Launch} {G : Nat → Nat} {wB : Wd} {x : TS} {w : Wd} (hw : tW Γ G wB x w) {L : Nat} (h : x.1 19 = nI L) (hL : L + 4 ≤ 60) (n : Nat) (hn : n < 10000) (v : Int32) (hv : v = nI n) : M0 Γ l yX8_sayNumber (ws_ yX8_sayNumber cX8_sayNumber 3 none) (rl 1 0 0) 0 0 [.ref (G 61), .int v] w (fun r9 w9 => r9 = none ∧ tW Γ G wB (tw_sn n x) w9) := by
  refine M0.of (lv := [some (.ref (G 61)), some (.int v), none]) (by decide) (Nat.le_of_ble_eq_true rfl) 1 rfl rfl ?_
  intro X hX hR hl hG hnm
  subst hl; subst hG
  subst hv
  have h4 := dg_le hn
  refine v_iconst hX dX8_sayNumber_0 li1 ?_
  refine v_istore_n (lv' := [_, _, _]) hX dX8_sayNumber_1 (Nat.le_of_ble_eq_true rfl) rfl rfl ?_
  refine loop_up (dg n - 1) (fun i => V X w 0 0 2 [some (.ref (G 61)), some (.int (nI n)), some (.int (nI (10 ^ (i))))] []) ?_ ?_ 0 (Nat.zero_le _)
  · skip
    obtain ⟨i, hie⟩ : ∃ i, i = dg n - 1 := ⟨_, rfl⟩
    rw [← hie]
    refine v_iload_n hX dX8_sayNumber_2 rfl ?_
    refine v_iload_n hX dX8_sayNumber_3 rfl ?_
    refine v_idiv hX dX8_sayNumber_4 (nI_n0 (p10 (show i ≤ 3 by omega)).1 (Nat.le_trans (p10 (show i ≤ 3 by omega)).2 (by decide))) ?_
    refine v_bipush hX dX8_sayNumber_5 lb9 ?_
    refine v_icmp_le_t (tgt := 18) hX dX8_sayNumber_7 rfl (by rw [hie]; exact dg_x hn) ?_
    subst hie
    rw [show (nI (10 ^ (dg n - 1)) : Int32) = nI (10 ^ (dg n - 1) / 10 ^ 0) from by rw [Nat.pow_zero, Nat.div_one]]
    refine loop_up (dg n) (fun i => ∀ w, tW (xG X) G wB ((it ((fun i y => tw_say (tw_dc n i) y)) (i) x)) w → V X w 0 0 18 [some (.ref (G 61)), some (.int (nI n)), some (.int (nI (10 ^ (dg n - 1) / 10 ^ (i))))] []) ?_ ?_ 0 (Nat.zero_le _) w hw
    · intro w hw
      refine v_iload_n hX dX8_sayNumber_18 rfl ?_
      refine v_if_le_t (tgt := 44) hX dX8_sayNumber_19 rfl (by rw [un_end hn]; decide) ?_
      exact v_vret hX dX8_sayNumber_44 hR (Nat.le_of_ble_eq_true rfl) (Nat.le_of_ble_eq_true rfl) (⟨rfl, hw⟩)
    · intro i hi ih w hw
      have ih : ∀ w, tW (xG X) G wB ((((fun i y => tw_say (tw_dc n i) y)) i (it ((fun i y => tw_say (tw_dc n i) y)) (i) x))) w → V X w 0 0 18 [some (.ref (G 61)), some (.int (nI n)), some (.int (nI (10 ^ (dg n - 1) / 10 ^ (i + 1))))] [] := ih
      have hu := un_pos hn hi
      have h19 := say_it (F := tw_dc n) h i
      generalize (it ((fun i y => tw_say (tw_dc n i) y)) (i) x) = y at hw ih h19
      refine v_iload_n hX dX8_sayNumber_18 rfl ?_
      refine v_if_le_f (tgt := 44) hX dX8_sayNumber_19 rfl (nI_nle (by omega) (by omega)) ?_
      refine v_aload_n hX dX8_sayNumber_22 rfl ?_
      refine v_bipush hX dX8_sayNumber_23 lb48 ?_
      refine v_iload_n hX dX8_sayNumber_25 rfl ?_
      refine v_iload_n hX dX8_sayNumber_26 rfl ?_
      refine v_idiv hX dX8_sayNumber_27 (nI_n0 hu.1 (Nat.le_trans hu.2 (by decide))) ?_
      refine v_bipush hX dX8_sayNumber_28 lb10 ?_
      refine v_irem hX dX8_sayNumber_30 (by decide) ?_
      refine v_iadd hX dX8_sayNumber_31 ?_
      refine v_i2c hX dX8_sayNumber_32 ?_
      refine tv_call0 hX rfl dX8_sayNumber_33 q2625 cf_X8_say hw (mX8_say hw h19 (by omega) _) rfl ⟨rfl, rfl⟩ ⟨Nat.le_of_ble_eq_true rfl, Nat.le_of_ble_eq_true rfl⟩ rfl (Nat.le_of_ble_eq_true rfl) ⟨Nat.le_of_ble_eq_true rfl, Nat.le_of_ble_eq_true rfl⟩ (fun w hw => ?_)
      refine v_iload_n hX dX8_sayNumber_36 rfl ?_
      refine v_bipush hX dX8_sayNumber_37 lb10 ?_
      refine v_idiv hX dX8_sayNumber_39 (by decide) ?_
      refine v_istore_n (lv' := [_, _, _]) hX dX8_sayNumber_40 (Nat.le_of_ble_eq_true rfl) rfl rfl ?_
      refine v_goto (tgt := 18) hX dX8_sayNumber_41 rfl ?_
      exact V.at rfl (by rw [un_s hn hi]) rfl (ih w hw)
  · intro i hi ih
    have ih : V X w 0 0 2 [some (.ref (G 61)), some (.int (nI n)), some (.int (nI (10 ^ (i + 1))))] [] := ih
    refine v_iload_n hX dX8_sayNumber_2 rfl ?_
    refine v_iload_n hX dX8_sayNumber_3 rfl ?_
    refine v_idiv hX dX8_sayNumber_4 (nI_n0 (p10 (show i ≤ 3 by omega)).1 (Nat.le_trans (p10 (show i ≤ 3 by omega)).2 (by decide))) ?_
    refine v_bipush hX dX8_sayNumber_5 lb9 ?_
    refine v_icmp_le_f (tgt := 18) hX dX8_sayNumber_7 rfl (dg_s hn hi) ?_
    refine v_iload_n hX dX8_sayNumber_10 rfl ?_
    refine v_bipush hX dX8_sayNumber_11 lb10 ?_
    refine v_imul hX dX8_sayNumber_13 ?_
    refine v_istore_n (lv' := [_, _, _]) hX dX8_sayNumber_14 (Nat.le_of_ble_eq_true rfl) rfl rfl ?_
    refine v_goto (tgt := 2) hX dX8_sayNumber_15 rfl ?_
    exact V.at rfl (by rw [show (10 : Int32) = nI 10 from rfl, pk_mul, ← Nat.pow_succ]) rfl ih
end
