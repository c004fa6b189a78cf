/-! the twin: texts, statements -/
noncomputable section
set_option maxRecDepth 100000
theorem lb60 : (Int8.ofInt (60)).toInt32 = 60 := by decide +kernel
theorem ls240 : (Int16.ofInt (240)).toInt32 = 240 := by decide +kernel
theorem ls300 : (Int16.ofInt (300)).toInt32 = 300 := by decide +kernel
theorem ph_lt {x : TS} (hr : tR x) (h : ¬ 8 ≤ x.1 27) : vp_in (x.1 27) 8 := by
  rw [hr.2.1] at h ⊢
  have h1 := hr.1
  refine vnI ?_ (by decide)
  rcases Nat.lt_or_ge (np x) 8 with z | z
  · exact z
  · exact absurd (nI_le z (by omega)) h
theorem n48 {a k : Int32} (ha : vp_in a 8) (hk : vp_in k 6) : vp_in (6 * a + k) 48 := by
  obtain ⟨i, hi, rfl⟩ := vp_in_of ha (by decide)
  obtain ⟨j, hj, rfl⟩ := vp_in_of hk (by decide)
  rw [show (6 : Int32) = nI 6 from rfl, pk_mul, nI_add]
  exact vp_in_nI (by omega) (by decide)
theorem n48z {a : Int32} (ha : vp_in a 8) : vp_in (6 * a) 48 := by
  obtain ⟨i, hi, rfl⟩ := vp_in_of ha (by decide)
  rw [show (6 : Int32) = nI 6 from rfl, pk_mul]
  exact vp_in_nI (by omega) (by decide)
def tRX (x : TS) : Prop := tX x ∧ tT x ∧ tR x
theorem tRX.must {x : TS} (h : tRX x) {b : Int32} : tRX (tw_must b x) := ⟨must_X h.1, must_T h.2.1, h.2.2.rd must_Rd⟩
theorem tRX.go {x : TS} (h : tRX x) : tRX (tw_go x) := ⟨go_X h.1, go_T h.1 h.2.1, h.2.2.rd go_Rd⟩
theorem tRX.tok {x : TS} (h : tRX x) : tRX (tw_tok x) := ⟨tok_X h.1, tok_T h.1, h.2.2.rd tok_Rd⟩
theorem tRX.val {x : TS} (h : tRX x) {lo hi : Int32} : tRX (tw_val lo hi x).2 := ⟨val_X h.1, val_T h.1 h.2.1, h.2.2.rd val_Rd⟩
theorem tX.u {x : TS} {j : Nat} {i v : Int32} (h : tX x) : tX (tU x j i v) := h
theorem tT.u {x : TS} {j : Nat} {i v : Int32} (h : tT x) : tT (tU x j i v) := h
theorem tX.v {x : TS} {j : Nat} {i : Int32} {v : Int64} (h : tX x) : tX (tV x j i v) := h
theorem tT.v {x : TS} {j : Nat} {i : Int32} {v : Int64} (h : tT x) : tT (tV x j i v) := h
theorem tU_2 {x : TS} {j j2 : Nat} {i v : Int32} (h : j2 ≠ j) : (tU x j i v).2.2.1 j2 = x.2.2.1 j2 := if_neg h
theorem tR.u {x : TS} {j : Nat} {i v : Int32} (h : tR x) (hj : j ≠ 1) : tR (tU x j i v) := h.of rfl rfl (by rw [tU_2 (Ne.symm hj)])
theorem tR.v {x : TS} {j : Nat} {i : Int32} {v : Int64} (h : tR x) : tR (tV x j i v) := h.of rfl rfl rfl
theorem tRX.u {x : TS} {j : Nat} {i v : Int32} (h : tRX x) (hj : j ≠ 1) : tRX (tU x j i v) := ⟨h.1.u, h.2.1.u, h.2.2.u hj⟩
theorem tRX.v {x : TS} {j : Nat} {i : Int32} {v : Int64} (h : tRX x) : tRX (tV x j i v) := ⟨h.1.v, h.2.1.v, h.2.2.v⟩
/-- one number of a product: read within bounds, put at i -/
def tw_rpn (i lo hi : Int32) (y : TS) : TS := tU (tw_val lo hi y).2 29 i (tw_val lo hi y).1
def tw_rp1 (x : TS) : TS := tw_go (tw_must (bi (¬ 8 ≤ x.1 27)) x)
def tw_rp2 (y : TS) : TS := tw_must (bi (y.1 23 = 1 ∧ tw_ph y = -1)) y
def tw_rp6 (y : TS) : TS := if y.1 26 = -1 then sI y 27 (y.1 27 + 1) else y
def tw_rp5 (b : Int32) (y : TS) : TS := tw_rp6 (tw_rpn (b + 5) 100 300 (tw_rpn (b + 4) 1 120 (tw_rpn (b + 3) 0 120 (tw_rpn (b + 2) 1 240 (tw_rpn (b + 1) 1 60 (tw_rpn b 0 9 y))))))
def tw_rp4 (y : TS) : TS := if y.1 26 = -1 then tw_rp5 (6 * y.1 27) (tw_tok (tV y 30 (y.1 27) (y.2.1 25))) else y
def tw_rp (x : TS) : TS := tw_rp4 (tw_rp2 (tw_rp1 x))
theorem tRX.rpn {x : TS} (h : tRX x) {i lo hi : Int32} : tRX (tw_rpn i lo hi x) := h.val.u (by decide)
theorem rp2_w {x : TS} (h : tRX x) (hw : (tw_rp2 (tw_rp1 x)).1 26 = -1) : ¬ 8 ≤ x.1 27 := by
  have h1 := (must_w h.must.go.2.1 hw).2
  have h2 := go_w h1
  exact bi_n0.mp (must_w h.2.1 h2).1
theorem rp_27 {x : TS} : (tw_rp2 (tw_rp1 x)).1 27 = x.1 27 := (must_j (by decide)).trans ((go_Rd.1 27 (by decide) (by decide) (by decide) (by decide) (by decide)).trans (must_j (by decide)))
theorem cf_X8_readProduct : CF RX8 yX8_readProduct cX8_readProduct 2 none 0 := ⟨q2173, qs52, q150, q2174, by decide +kernel⟩
theorem mX8_readProduct {Γ : Gm} {l : Launch} {G : Nat → Nat} {wB : Wd} {x : TS} {w : Wd} (hw : tW Γ G wB x w) (hx : tRX x) : M0 Γ l yX8_readProduct (ws_ yX8_readProduct cX8_readProduct 2 none) (rl 5 0 0) 0 0 [.ref (G 61)] w (fun r9 w9 => r9 = none ∧ tW Γ G wB (tw_rp x) w9) := by
  refine M0.of (lv := [some (.ref (G 61)), none]) (by decide) (Nat.le_of_ble_eq_true rfl) 1 rfl rfl ?_
  intro X hX hR hl hG hnm
  subst hl; subst hG
  refine v_aload_n hX dX8_readProduct_0 rfl ?_
  refine v_join 15 (.int (bi (¬ 8 ≤ x.1 27))) ?_ (fun hj => ?_)
  · refine tv_call0 hX rfl dX8_readProduct_15 q2175 cf_X8_must hw (mX8_must hw _) rfl ⟨rfl, rfl⟩ ⟨Nat.le_of_ble_eq_true rfl, Nat.le_of_ble_eq_true rfl⟩ rfl (Nat.le_of_ble_eq_true rfl) ⟨Nat.le_of_ble_eq_true rfl, Nat.le_of_ble_eq_true rfl⟩ (fun w hw => ?_)
    refine v_aload_n hX dX8_readProduct_18 rfl ?_
    refine tv_call0 hX rfl dX8_readProduct_19 q2179 cf_X8_goesOn hw (mX8_goesOn hw hx.must.1) rfl ⟨rfl, rfl⟩ ⟨Nat.le_of_ble_eq_true rfl, Nat.le_of_ble_eq_true rfl⟩ rfl (Nat.le_of_ble_eq_true rfl) ⟨Nat.le_of_ble_eq_true rfl, Nat.le_of_ble_eq_true rfl⟩ (fun w hw => ?_)
    obtain ⟨y1, hy1e⟩ : ∃ z, z = tw_rp1 x := ⟨_, rfl⟩
    have hw : tW (xG X) G wB y1 w := hw.to hy1e
    have hy1r : tRX y1 := by rw [hy1e]; exact hx.must.go
    refine v_aload_n hX dX8_readProduct_22 rfl ?_
    refine v_join 44 (.int (bi (y1.1 23 = 1 ∧ tw_ph y1 = -1))) ?_ (fun hj => ?_)
    · refine tv_call0 hX rfl dX8_readProduct_44 q2175 cf_X8_must hw (mX8_must hw _) rfl ⟨rfl, rfl⟩ ⟨Nat.le_of_ble_eq_true rfl, Nat.le_of_ble_eq_true rfl⟩ rfl (Nat.le_of_ble_eq_true rfl) ⟨Nat.le_of_ble_eq_true rfl, Nat.le_of_ble_eq_true rfl⟩ (fun w hw => ?_)
      obtain ⟨y2, hy2⟩ : ∃ z, z = tw_rp2 y1 := ⟨_, rfl⟩
      have hw : tW (xG X) G wB y2 w := hw.to hy2
      have hr2 : tRX y2 := by rw [hy2]; exact hy1r.must
      have hb8 : y2.1 26 = -1 → vp_in (y2.1 27) 8 := fun q => by rw [hy2, hy1e] at q ⊢; rw [rp_27]; exact ph_lt hx.2.2 (rp2_w hx q)
      refine v_aload_n hX dX8_readProduct_47 rfl ?_
      refine tv_callR hX rfl dX8_readProduct_48 q2152 cf_X8_isWell hw (mX8_isWell hw) rfl ⟨rfl, rfl⟩ ⟨Nat.le_of_ble_eq_true rfl, Nat.le_of_ble_eq_true rfl⟩ rfl (Nat.le_of_ble_eq_true rfl) ⟨Nat.le_of_ble_eq_true rfl, Nat.le_of_ble_eq_true rfl⟩ ?_
      refine v_ifb_ne (tgt := 55) hX dX8_readProduct_51 rfl (fun c_51 => ?_) (fun c_51 => ?_)
      · refine v_bipush hX dX8_readProduct_55 lb6 ?_
        refine v_aload_n hX dX8_readProduct_57 rfl ?_
        refine tv_getI hX dX8_readProduct_58 hw 27 (by decide) rfl q1936 ?_
        refine v_imul hX dX8_readProduct_61 ?_
        refine v_istore_n (lv' := [_, _]) hX dX8_readProduct_62 (Nat.le_of_ble_eq_true rfl) rfl rfl ?_
        refine v_aload_n hX dX8_readProduct_63 rfl ?_
        refine tv_getA hX dX8_readProduct_64 hw 30 (by decide) rfl q1939 ?_
        refine v_aload_n hX dX8_readProduct_67 rfl ?_
        refine tv_getI hX dX8_readProduct_68 hw 27 (by decide) rfl q1936 ?_
        refine v_aload_n hX dX8_readProduct_71 rfl ?_
        refine tv_getL hX dX8_readProduct_72 hw 25 (by decide) rfl q1934 ?_
        refine tv_last hX dX8_readProduct_75 hw (by decide) rfl rfl (hb8 c_51) (fun w hw => ?_)
        refine v_aload_n hX dX8_readProduct_76 rfl ?_
        refine tv_call0 hX rfl dX8_readProduct_77 q2122 cf_X8_readToken hw (mX8_readToken hw hr2.v.1) rfl ⟨rfl, rfl⟩ ⟨Nat.le_of_ble_eq_true rfl, Nat.le_of_ble_eq_true rfl⟩ rfl (Nat.le_of_ble_eq_true rfl) ⟨Nat.le_of_ble_eq_true rfl, Nat.le_of_ble_eq_true rfl⟩ (fun w hw => ?_)
        obtain ⟨y3, hy3⟩ : ∃ z, z = tw_tok (tV y2 30 (y2.1 27) (y2.2.1 25)) := ⟨_, rfl⟩
        have hw : tW (xG X) G wB y3 w := hw.to hy3
        have hr3 : tRX y3 := by rw [hy3]; exact hr2.v.tok
        refine v_aload_n hX dX8_readProduct_80 rfl ?_
        refine tv_getA hX dX8_readProduct_81 hw 29 (by decide) rfl q1938 ?_
        refine v_iload_n hX dX8_readProduct_84 rfl ?_
        refine v_aload_n hX dX8_readProduct_85 rfl ?_
        refine v_iconst hX dX8_readProduct_86 li0 ?_
        refine v_bipush hX dX8_readProduct_87 lb9 ?_
        refine tv_callV hX rfl dX8_readProduct_89 q2187 cf_X8_readValue hw (mX8_readValue hw (hr3.1) _ _) rfl ⟨rfl, rfl⟩ ⟨Nat.le_of_ble_eq_true rfl, Nat.le_of_ble_eq_true rfl⟩ rfl (Nat.le_of_ble_eq_true rfl) ⟨Nat.le_of_ble_eq_true rfl, Nat.le_of_ble_eq_true rfl⟩ (fun w hw => ?_)
        refine tv_iast hX dX8_readProduct_92 hw (by decide) rfl rfl (n48z (hb8 c_51)) (fun w hw => ?_)
        obtain ⟨y4, hy4⟩ : ∃ z, z = tw_rpn (6 * y2.1 27) 0 9 y3 := ⟨_, rfl⟩
        have hw : tW (xG X) G wB y4 w := hw.to hy4
        have hr4 : tRX y4 := by rw [hy4]; exact hr3.rpn
        refine v_aload_n hX dX8_readProduct_93 rfl ?_
        refine tv_getA hX dX8_readProduct_94 hw 29 (by decide) rfl q1938 ?_
        refine v_iload_n hX dX8_readProduct_97 rfl ?_
        refine v_iconst hX dX8_readProduct_98 li1 ?_
        refine v_iadd hX dX8_readProduct_99 ?_
        refine v_aload_n hX dX8_readProduct_100 rfl ?_
        refine v_iconst hX dX8_readProduct_101 li1 ?_
        refine v_bipush hX dX8_readProduct_102 lb60 ?_
        refine tv_callV hX rfl dX8_readProduct_104 q2187 cf_X8_readValue hw (mX8_readValue hw (hr4.1) _ _) rfl ⟨rfl, rfl⟩ ⟨Nat.le_of_ble_eq_true rfl, Nat.le_of_ble_eq_true rfl⟩ rfl (Nat.le_of_ble_eq_true rfl) ⟨Nat.le_of_ble_eq_true rfl, Nat.le_of_ble_eq_true rfl⟩ (fun w hw => ?_)
        refine tv_iast hX dX8_readProduct_107 hw (by decide) rfl rfl (n48 (hb8 c_51) (vin (by decide))) (fun w hw => ?_)
        obtain ⟨y5, hy5⟩ : ∃ z, z = tw_rpn (6 * y2.1 27 + 1) 1 60 y4 := ⟨_, rfl⟩
        have hw : tW (xG X) G wB y5 w := hw.to hy5
        have hr5 : tRX y5 := by rw [hy5]; exact hr4.rpn
        refine v_aload_n hX dX8_readProduct_108 rfl ?_
        refine tv_getA hX dX8_readProduct_109 hw 29 (by decide) rfl q1938 ?_
        refine v_iload_n hX dX8_readProduct_112 rfl ?_
        refine v_iconst hX dX8_readProduct_113 li2 ?_
        refine v_iadd hX dX8_readProduct_114 ?_
        refine v_aload_n hX dX8_readProduct_115 rfl ?_
        refine v_iconst hX dX8_readProduct_116 li1 ?_
        refine v_sipush hX dX8_readProduct_117 ls240 ?_
        refine tv_callV hX rfl dX8_readProduct_120 q2187 cf_X8_readValue hw (mX8_readValue hw (hr5.1) _ _) rfl ⟨rfl, rfl⟩ ⟨Nat.le_of_ble_eq_true rfl, Nat.le_of_ble_eq_true rfl⟩ rfl (Nat.le_of_ble_eq_true rfl) ⟨Nat.le_of_ble_eq_true rfl, Nat.le_of_ble_eq_true rfl⟩ (fun w hw => ?_)
        refine tv_iast hX dX8_readProduct_123 hw (by decide) rfl rfl (n48 (hb8 c_51) (vin (by decide))) (fun w hw => ?_)
        obtain ⟨y6, hy6⟩ : ∃ z, z = tw_rpn (6 * y2.1 27 + 2) 1 240 y5 := ⟨_, rfl⟩
        have hw : tW (xG X) G wB y6 w := hw.to hy6
        have hr6 : tRX y6 := by rw [hy6]; exact hr5.rpn
        refine v_aload_n hX dX8_readProduct_124 rfl ?_
        refine tv_getA hX dX8_readProduct_125 hw 29 (by decide) rfl q1938 ?_
        refine v_iload_n hX dX8_readProduct_128 rfl ?_
        refine v_iconst hX dX8_readProduct_129 li3 ?_
        refine v_iadd hX dX8_readProduct_130 ?_
        refine v_aload_n hX dX8_readProduct_131 rfl ?_
        refine v_iconst hX dX8_readProduct_132 li0 ?_
        refine v_bipush hX dX8_readProduct_133 lb120 ?_
        refine tv_callV hX rfl dX8_readProduct_135 q2187 cf_X8_readValue hw (mX8_readValue hw (hr6.1) _ _) rfl ⟨rfl, rfl⟩ ⟨Nat.le_of_ble_eq_true rfl, Nat.le_of_ble_eq_true rfl⟩ rfl (Nat.le_of_ble_eq_true rfl) ⟨Nat.le_of_ble_eq_true rfl, Nat.le_of_ble_eq_true rfl⟩ (fun w hw => ?_)
        refine tv_iast hX dX8_readProduct_138 hw (by decide) rfl rfl (n48 (hb8 c_51) (vin (by decide))) (fun w hw => ?_)
        obtain ⟨y7, hy7⟩ : ∃ z, z = tw_rpn (6 * y2.1 27 + 3) 0 120 y6 := ⟨_, rfl⟩
        have hw : tW (xG X) G wB y7 w := hw.to hy7
        have hr7 : tRX y7 := by rw [hy7]; exact hr6.rpn
        refine v_aload_n hX dX8_readProduct_139 rfl ?_
        refine tv_getA hX dX8_readProduct_140 hw 29 (by decide) rfl q1938 ?_
        refine v_iload_n hX dX8_readProduct_143 rfl ?_
        refine v_iconst hX dX8_readProduct_144 li4 ?_
        refine v_iadd hX dX8_readProduct_145 ?_
        refine v_aload_n hX dX8_readProduct_146 rfl ?_
        refine v_iconst hX dX8_readProduct_147 li1 ?_
        refine v_bipush hX dX8_readProduct_148 lb120 ?_
        refine tv_callV hX rfl dX8_readProduct_150 q2187 cf_X8_readValue hw (mX8_readValue hw (hr7.1) _ _) rfl ⟨rfl, rfl⟩ ⟨Nat.le_of_ble_eq_true rfl, Nat.le_of_ble_eq_true rfl⟩ rfl (Nat.le_of_ble_eq_true rfl) ⟨Nat.le_of_ble_eq_true rfl, Nat.le_of_ble_eq_true rfl⟩ (fun w hw => ?_)
        refine tv_iast hX dX8_readProduct_153 hw (by decide) rfl rfl (n48 (hb8 c_51) (vin (by decide))) (fun w hw => ?_)
        obtain ⟨y8, hy8⟩ : ∃ z, z = tw_rpn (6 * y2.1 27 + 4) 1 120 y7 := ⟨_, rfl⟩
        have hw : tW (xG X) G wB y8 w := hw.to hy8
        have hr8 : tRX y8 := by rw [hy8]; exact hr7.rpn
        refine v_aload_n hX dX8_readProduct_154 rfl ?_
        refine tv_getA hX dX8_readProduct_155 hw 29 (by decide) rfl q1938 ?_
        refine v_iload_n hX dX8_readProduct_158 rfl ?_
        refine v_iconst hX dX8_readProduct_159 li5 ?_
        refine v_iadd hX dX8_readProduct_160 ?_
        refine v_aload_n hX dX8_readProduct_161 rfl ?_
        refine v_bipush hX dX8_readProduct_162 lb100 ?_
        refine v_sipush hX dX8_readProduct_164 ls300 ?_
        refine tv_callV hX rfl dX8_readProduct_167 q2187 cf_X8_readValue hw (mX8_readValue hw (hr8.1) _ _) rfl ⟨rfl, rfl⟩ ⟨Nat.le_of_ble_eq_true rfl, Nat.le_of_ble_eq_true rfl⟩ rfl (Nat.le_of_ble_eq_true rfl) ⟨Nat.le_of_ble_eq_true rfl, Nat.le_of_ble_eq_true rfl⟩ (fun w hw => ?_)
        refine tv_iast hX dX8_readProduct_170 hw (by decide) rfl rfl (n48 (hb8 c_51) (vin (by decide))) (fun w hw => ?_)
        obtain ⟨y9, hy9⟩ : ∃ z, z = tw_rpn (6 * y2.1 27 + 5) 100 300 y8 := ⟨_, rfl⟩
        have hw : tW (xG X) G wB y9 w := hw.to hy9
        have hr9 : tRX y9 := by rw [hy9]; exact hr8.rpn
        refine v_aload_n hX dX8_readProduct_171 rfl ?_
        refine tv_callR hX rfl dX8_readProduct_172 q2152 cf_X8_isWell hw (mX8_isWell hw) rfl ⟨rfl, rfl⟩ ⟨Nat.le_of_ble_eq_true rfl, Nat.le_of_ble_eq_true rfl⟩ rfl (Nat.le_of_ble_eq_true rfl) ⟨Nat.le_of_ble_eq_true rfl, Nat.le_of_ble_eq_true rfl⟩ ?_
        refine v_ifb_eq (tgt := 188) hX dX8_readProduct_175 rfl (fun c_175 => ?_) (fun c_175 => ?_)
        · exact v_vret hX dX8_readProduct_188 hR (Nat.le_of_ble_eq_true rfl) (Nat.le_of_ble_eq_true rfl) (⟨rfl, hw.to (by rw [tw_rp, ← hy1e, ← hy2, tw_rp4, if_pos c_51, ← hy3, tw_rp5, ← hy4, ← hy5, ← hy6, ← hy7, ← hy8, ← hy9, tw_rp6, if_neg c_175])⟩)
        · refine v_aload_n hX dX8_readProduct_178 rfl ?_
          refine v_dup hX dX8_readProduct_179 rfl ?_
          refine tv_getI hX dX8_readProduct_180 hw 27 (by decide) rfl q1936 ?_
          refine v_iconst hX dX8_readProduct_183 li1 ?_
          refine v_iadd hX dX8_readProduct_184 ?_
          refine tv_putI hX dX8_readProduct_185 hw 27 (by decide) rfl q1936 rfl (by decide +kernel) (fun w hw => ?_)
          exact v_vret hX dX8_readProduct_188 hR (Nat.le_of_ble_eq_true rfl) (Nat.le_of_ble_eq_true rfl) (⟨rfl, hw.to (by rw [tw_rp, ← hy1e, ← hy2, tw_rp4, if_pos c_51, ← hy3, tw_rp5, ← hy4, ← hy5, ← hy6, ← hy7, ← hy8, ← hy9, tw_rp6, if_pos c_175])⟩)
      · exact v_vret hX dX8_readProduct_54 hR (Nat.le_of_ble_eq_true rfl) (Nat.le_of_ble_eq_true rfl) (⟨rfl, hw.to (by rw [tw_rp, ← hy1e, ← hy2, tw_rp4, if_neg c_51])⟩)
    · refine v_aload_n hX dX8_readProduct_23 rfl ?_
      refine tv_getI hX dX8_readProduct_24 hw 23 (by decide) rfl q1932 ?_
      refine v_iconst hX dX8_readProduct_27 li1 ?_
      refine v_icmp_ne (tgt := 43) hX dX8_readProduct_28 rfl (fun c_28 => ?_) (fun c_28 => ?_)
      · refine v_iconst hX dX8_readProduct_43 li0 ?_
        exact V.at rfl rfl (by simp [bi, c_28]) hj
      · refine v_aload_n hX dX8_readProduct_31 rfl ?_
        refine tv_callR hX rfl dX8_readProduct_32 q2183 cf_X8_productHere hw (mX8_productHere hw hy1r.2.2) rfl ⟨rfl, rfl⟩ ⟨Nat.le_of_ble_eq_true rfl, Nat.le_of_ble_eq_true rfl⟩ rfl (Nat.le_of_ble_eq_true rfl) ⟨Nat.le_of_ble_eq_true rfl, Nat.le_of_ble_eq_true rfl⟩ ?_
        refine v_iconst hX dX8_readProduct_35 lim1 ?_
        refine v_icmp_ne (tgt := 43) hX dX8_readProduct_36 rfl (fun c_36 => ?_) (fun c_36 => ?_)
        · refine v_iconst hX dX8_readProduct_43 li0 ?_
          exact V.at rfl rfl (by simp [bi, c_28, c_36]) hj
        · refine v_iconst hX dX8_readProduct_39 li1 ?_
          refine v_goto (tgt := 44) hX dX8_readProduct_40 rfl ?_
          exact V.at rfl rfl (by simp [bi, c_28, c_36]) hj
  · refine v_aload_n hX dX8_readProduct_1 rfl ?_
    refine tv_getI hX dX8_readProduct_2 hw 27 (by decide) rfl q1936 ?_
    refine v_bipush hX dX8_readProduct_5 lb8 ?_
    refine v_icmp_ge (tgt := 14) hX dX8_readProduct_7 rfl (fun c_7 => ?_) (fun c_7 => ?_)
    · refine v_iconst hX dX8_readProduct_14 li0 ?_
      exact V.at rfl rfl (by simp [bi, c_7]) hj
    · refine v_iconst hX dX8_readProduct_10 li1 ?_
      refine v_goto (tgt := 15) hX dX8_readProduct_11 rfl ?_
      exact V.at rfl rfl (by simp [bi, c_7]) hj
end
