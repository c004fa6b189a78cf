/-! the day: words, small methods -/
set_option maxRecDepth 100000
/-- what is good about a plan -/
def qm (P : Pl) : Nat := (P.sf 0).toNatClampNeg
def qd (P : Pl) : Nat := (P.sf 1).toNatClampNeg
def qs (P : Pl) : Nat := (P.sf 4).toNatClampNeg
def qr (P : Pl) : Nat := (P.sf 5).toNatClampNeg
def pOK (S : Sh) (P : Pl) : Prop := (∀ b, b < P.nb → vp_in (P.bx b).1 S.np ∧ vp_in (P.bx b).2.2 6) ∧ (P.sf 0 = nI (qm P) ∧ 1 ≤ qm P ∧ qm P ≤ 3) ∧ (P.sf 1 = nI (qd P) ∧ 1 ≤ qd P ∧ qd P ≤ 4) ∧ (P.sf 4 = nI (qs P) ∧ 2 ≤ qs P ∧ qs P ≤ 8) ∧ P.sf 5 = nI (qr P) ∧ 1 ≤ qr P ∧ qr P ≤ 20
/-- setting, product, address of a batch, of its product -/
abbrev pS (P : Pl) (i : Int32) : Int32 := P.sf i.toNatClampNeg
abbrev pX (S : Sh) (P : Pl) (b : Int32) : Nat × Int32 × Int32 × Int32 × Int32 × Int32 × Int32 := S.px (P.bx b.toNatClampNeg).1.toNatClampNeg
def pB (P : Pl) (b : Int32) : Nat := (P.bf b.toNatClampNeg).getD 0
def pA (S : Sh) (P : Pl) (b : Int32) : Nat := (S.pf (P.bx b.toNatClampNeg).1.toNatClampNeg).getD 0
theorem vlt {i : Int32} {n : Nat} (h : vp_in i n) : i.toNatClampNeg < n := Nat.not_le.mp (fun q => h (Or.inr q))
theorem plB_at {Γ : Gm} {S : Sh} {p : Nat} {P : Pl} {w : Wd} (hO : plO Γ S p P w) {b : Int32} (hb : vp_in b P.nb) : w (pB P b) = some (true, bcell (P.bx b.toNatClampNeg)) := by
  obtain ⟨v, e1, e2⟩ := hO.2.2.2.2.2.1 _ (vlt hb)
  unfold pB
  rw [e1]; exact e2
theorem plX_at {Γ : Gm} {S : Sh} {P : Pl} {w : Wd} (hS : shR Γ S w) (hK : pOK S P) {b : Int32} (hb : vp_in b P.nb) : w (pA S P b) = some (true, xcell (pX S P b)) := by
  obtain ⟨v, e1, e2⟩ := hS.2.2.2.1 _ (vlt (hK.1 _ (vlt hb)).1)
  unfold pA
  rw [e1]; exact e2
theorem m3_get {Γ : Gm} {l : Launch} {w : Wd} {S : Sh} {P : Pl} {p : Nat} (hO : plO Γ S p P w) (b : Int32) (hb : vp_in b P.nb) : M0 Γ l yJ2_get (ws_ yJ2_get cJ2_get 2 (Option.some (Jvm.ClassFile.FieldType.object "java/lang/Object"))) (rl 2 0 0) 0 0 [.ref P.ba, .int b] w (fun v9 w9 => v9 = some (.ref (pB P b)) ∧ w9 = w) := by
  have h20 := hO.2.2.2.2.1
  obtain ⟨j, hj, rfl⟩ := vp_in_of hb (by omega)
  obtain ⟨v, e1, e2⟩ := hO.2.2.2.2.2.1 _ hj
  have e3 : pB P (nI j) = v := by unfold pB; rw [nI_clamp (by omega), e1]; rfl
  rw [e3]
  exact m2_J2_get hj h20 (by decide) e1 hO.2.2.1 hO.2.2.2.1
theorem m3_productOf {Γ : Gm} {l : Launch} {w : Wd} (hg : gC Γ) {S : Sh} {P : Pl} {p : Nat} (hS : shR Γ S w) (hO : plO Γ S p P w) (hK : pOK S P) (b : Int32) (hb : vp_in b P.nb) : M0 Γ l yX2_productOf (ws_ yX2_productOf cX2_productOf 2 (Option.some (Jvm.ClassFile.FieldType.object "BakeryPlan$Product"))) (rl 3 0 0) 0 0 [.ref p, .int b] w (fun v9 w9 => v9 = some (.ref (pA S P b)) ∧ w9 = w) := by
  have h20 := hO.2.2.2.2.1
  have h8 := hS.2.2.1
  obtain ⟨j, hj, rfl⟩ := vp_in_of hb (by omega)
  have h1 := (hK.1 j hj).1
  obtain ⟨k, hk, e⟩ := vp_in_of h1 (by omega)
  obtain ⟨v, e1, e2⟩ := hS.2.2.2.1 _ hk
  have e3 : pA S P (nI j) = v := by unfold pA; rw [nI_clamp (by omega), e, nI_clamp (by omega), e1]; rfl
  rw [e3]
  exact m2_X2_productOf hg hS hO hj e hk e1
/-- the plan of a day is good, and it is the one that was counted -/
def dP (Γ : Gm) (S : Sh) (P : Pl) (wB : Wd) (x : DS) : Prop := shR Γ S wB ∧ plO Γ S (x.2.1 22) P wB ∧ pOK S P ∧ x.1 21 = nI P.nb ∧ P.nb ≤ 20
/-- what dP depends on -/
def dK (x : DS) : Nat × Int32 := (x.2.1 22, x.1 21)
theorem dP.k {Γ : Gm} {S : Sh} {P : Pl} {wB : Wd} {x y : DS} (h : dP Γ S P wB x) (e : dK y = dK x) : dP Γ S P wB y := by
  have e1 : y.2.1 22 = x.2.1 22 := congrArg Prod.fst e
  have e2 : y.1 21 = x.1 21 := congrArg Prod.snd e
  unfold dP
  rw [e1, e2]; exact h
section VMATH
variable {X : Cx} {w : Wd} {k n pc nL index : Nat} {lv : List (Option Value)} {st : List Value} {cc : ByteArray} {own : String} {RM : Room} {x y : Int32}
theorem v_mmax (hX : OK X cc own nL RM) (hnl : lv.length = nL) (hd : decode cc pc = .ok (.invokestatic index, 3)) (hlink : Cond.methodLink own index Lib.Math.max.name ∈ lw_all) (hfr : 1 ≤ RM.frames) (hlo : (st.map fun v => v.category).sum + 13 ≤ RM.locals) (hk : k ≤ RM.cells ∧ n ≤ RM.slots) (kk : V X w k n (pc + 3) lv (.int (if x < y then y else x) :: st)) : V X w k n pc lv (.int y :: .int x :: st) := by
  intro H locs ls a b c d
  have hRM : xR X = RM := hX.2.2.2.2.2.2.2
  rw [← hRM] at hfr hlo hk
  exact va_mmax hX.1.1 hX.1.2.1 (hX.1.2.2.1.trans (d.1.trans hnl).symm) hX.1.2.2.2.1 (hX.1.2.2.2.2 _ hlink) (hX.1.2.2.2.2 _ q285) (hX.1.2.2.2.2 _ q137) (hX.1.2.2.2.2 _ q286) hfr hlo hk.1 hk.2 hd (kk H locs ls a b c d)
theorem v_mmin (hX : OK X cc own nL RM) (hnl : lv.length = nL) (hd : decode cc pc = .ok (.invokestatic index, 3)) (hlink : Cond.methodLink own index Lib.Math.min.name ∈ lw_all) (hfr : 1 ≤ RM.frames) (hlo : (st.map fun v => v.category).sum + 13 ≤ RM.locals) (hk : k ≤ RM.cells ∧ n ≤ RM.slots) (kk : V X w k n (pc + 3) lv (.int (if y < x then y else x) :: st)) : V X w k n pc lv (.int y :: .int x :: st) := by
  intro H locs ls a b c d
  have hRM : xR X = RM := hX.2.2.2.2.2.2.2
  rw [← hRM] at hfr hlo hk
  exact va_mmin hX.1.1 hX.1.2.1 (hX.1.2.2.1.trans (d.1.trans hnl).symm) hX.1.2.2.2.1 (hX.1.2.2.2.2 _ hlink) (hX.1.2.2.2.2 _ q303) (hX.1.2.2.2.2 _ q137) (hX.1.2.2.2.2 _ q304) hfr hlo hk.1 hk.2 hd (kk H locs ls a b c d)
theorem v_mabs (hX : OK X cc own nL RM) (hnl : lv.length = nL) (hd : decode cc pc = .ok (.invokestatic index, 3)) (hlink : Cond.methodLink own index Lib.Math.abs.name ∈ lw_all) (hfr : 1 ≤ RM.frames) (hlo : (st.map fun v => v.category).sum + 13 ≤ RM.locals) (hk : k ≤ RM.cells ∧ n ≤ RM.slots) (kk : V X w k n (pc + 3) lv (.int (if 0 ≤ x then x else 0 - x) :: st)) : V X w k n pc lv (.int x :: st) := by
  intro H locs ls a b c d
  have hRM : xR X = RM := hX.2.2.2.2.2.2.2
  rw [← hRM] at hfr hlo hk
  exact va_mabs hX.1.1 hX.1.2.1 (hX.1.2.2.1.trans (d.1.trans hnl).symm) hX.1.2.2.2.1 (hX.1.2.2.2.2 _ hlink) (hX.1.2.2.2.2 _ q831) (hX.1.2.2.2.2 _ q137) (hX.1.2.2.2.2 _ q832) hfr hlo hk.1 hk.2 hd (kk H locs ls a b c d)
end VMATH
