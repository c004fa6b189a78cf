/-! the day against the twin: what a minute does, as functions; the relation -/
set_option maxRecDepth 100000
theorem eU_r {x : DS} {j j2 : Nat} {i v : Int32} : (eU x j i v).2.2 j2 = if j2 = j then upd (x.2.2 j) i.toNatClampNeg v else x.2.2 j2 := rfl
theorem eU_1 {x : DS} {j : Nat} {i v : Int32} : (eU x j i v).1 = x.1 := rfl
theorem eU_2 {x : DS} {j : Nat} {i v : Int32} : (eU x j i v).2.1 = x.2.1 := rfl
theorem eI_1 {x : DS} {j j2 : Nat} {v : Int32} : (eI x j v).1 j2 = if j2 = j then v else x.1 j2 := rfl
theorem eI_2 {x : DS} {j : Nat} {v : Int32} : (eI x j v).2 = x.2 := rfl
theorem tU_r {x : TS} {j j2 : Nat} {i v : Int32} : (tU x j i v).2.2.1 j2 = if j2 = j then upd (x.2.2.1 j) i.toNatClampNeg v else x.2.2.1 j2 := rfl
theorem tU_f {x : TS} {j : Nat} {i v : Int32} : (tU x j i v).1 = x.1 := rfl
theorem sI_1 {x : TS} {j j2 : Nat} {v : Int32} : (sI x j v).1 j2 = if j2 = j then v else x.1 j2 := rfl
theorem upd_r {f : Nat → Int32} {k j : Nat} {v : Int32} : upd f k v j = if j = k then v else f j := rfl
/-- minute, phase by phase -/
def dy_en1 (t : Int32) (m : Nat) (x : DS) : DS := if eG x 12 (nI m) = -1 then x else if eG x 13 (nI m) = t then eU (eU (eU x 0 (eG x 12 (nI m)) 2) 3 (eG x 12 (nI m)) t) 12 (nI m) (-1) else x
def dy_en2 (S : Sh) (P : Pl) (t : Int32) (d : Nat) (x : DS) : DS := if dy_bk x (nI d) then if eG x 5 (eG x 16 (nI d)) + (pX S P (eG x 16 (nI d))).2.2.2.2.2.1 = t then eU (eU (eU x 0 (eG x 16 (nI d)) 4) 6 (eG x 16 (nI d)) t) 16 (nI d) (-1) else x else x
def dy_end (S : Sh) (P : Pl) (t : Int32) (x : DS) : DS := it (dy_en2 S P t) (qd P) (it (dy_en1 t) (qm P) x)
def dy_un1 (b : Int32) (d : Nat) (x : DS) : DS := if eG x 16 (nI d) = b then eU x 16 (nI d) (-1) else eU x 16 (nI d) (eG x 16 (nI d))
def dy_un (b : Int32) (x : DS) : DS := it (dy_un1 b) 4 x
def dy_sp1 (S : Sh) (P : Pl) (t : Int32) (b : Nat) (x : DS) : DS := if eG x 0 (nI b) = 2 then if dy_old S P (nI b) < eG x 9 (nI b) then dy_un (nI b) (eU (eU (eU x 0 (nI b) 5) 7 (nI b) t) 11 (nI b) 0) else x else x
def dy_spo (S : Sh) (P : Pl) (t : Int32) (x : DS) : DS := it (dy_sp1 S P t) P.nb x
def dy_key (S : Sh) (P : Pl) (x : DS) (b : Int32) : Int32 := if P.po = 0 then b else if P.po = 1 then dy_old S P b - eG x 9 b else (P.bx b.toNatClampNeg).2.2
abbrev dy_bet (S : Sh) (P : Pl) (x : DS) (b o : Int32) : Prop := 0 < dy_key S P x o - dy_key S P x b ∨ (dy_key S P x o - dy_key S P x b = 0 ∧ b < o)
abbrev dy_may (S : Sh) (P : Pl) (x : DS) (d b : Int32) : Prop := eG x 0 b = 2 ∧ ¬ (∃ e : Nat, e < 4 ∧ eG x 16 (nI e) = b) ∧ dy_can S P x d b
def dy_bst1 (S : Sh) (P : Pl) (x : DS) (d : Int32) (b : Nat) (best : Int32) : Int32 := if dy_may S P x d (nI b) then if best = -1 then nI b else if dy_bet S P x (nI b) best then nI b else best else best
def dy_bst (S : Sh) (P : Pl) (x : DS) (d : Int32) : Int32 := it (dy_bst1 S P x d) P.nb (-1)
def dy_rs1 (S : Sh) (P : Pl) (d : Nat) (x : DS) : DS := if eG x 16 (nI d) = -1 then eU x 16 (nI d) (dy_bst S P x (nI d)) else x
def dy_res (S : Sh) (P : Pl) (x : DS) : DS := it (dy_rs1 S P) (qd P) x
def dy_baU (t d b : Int32) (x : DS) : DS := eU ((fun x => eU x 10 b (eG x 9 b)) (eU (eU (eU x 0 b 3) 4 b d) 5 b t)) 11 b 0
def dy_ba1 (S : Sh) (P : Pl) (t : Int32) (d : Nat) (x : DS) : DS := if eG x 16 (nI d) = -1 then x else if eG x 0 (eG x 16 (nI d)) = 2 then if eG x 9 (eG x 16 (nI d)) < dy_ripe S P (eG x 16 (nI d)) then x else if eG x 17 (nI d) = (pX S P (eG x 16 (nI d))).2.2.2.2.2.2 then dy_baU t (nI d) (eG x 16 (nI d)) x else x else x
def dy_bak (S : Sh) (P : Pl) (t : Int32) (x : DS) : DS := it (dy_ba1 S P t) (qd P) x
def dy_sh1 (S : Sh) (P : Pl) (b : Nat) (s : DS × Int32) : DS × Int32 := if s.2 ≤ 0 then s else if eG s.1 0 (nI b) = 2 then if eG s.1 11 (nI b) = 0 then if eG s.1 9 (nI b) < dy_ripe S P (nI b) then s else (eU s.1 11 (nI b) 1, s.2 + -1) else s else s
def dy_she (S : Sh) (P : Pl) (x : DS) : DS := (it (dy_sh1 S P) P.nb (x, pS P 2 - ct (fun b => ¬ eG x 11 (nI b) = 0) P.nb)).1
def dy_mxD (S : Sh) (P : Pl) (m b f : Int32) (x : DS) : DS := (fun x => eU x 15 m (eG x 15 m + 1)) (eU ((fun x => eU x 13 m (eG x 2 b + (pX S P b).2.2.1)) (eU (eU (eU (eU x 0 b 1) 1 b m) 2 b f) 12 m b)) 14 m (pX S P b).2.1)
def dy_mxB (S : Sh) (P : Pl) (t m b : Int32) (x : DS) : DS := if eG x 14 m = -1 then dy_mxD S P m b (t + 0) (eI x 19 (x.1 19 + 0)) else if eG x 14 m = (pX S P b).2.1 then dy_mxD S P m b (t + 0) (eI x 19 (x.1 19 + 0)) else dy_mxD S P m b (t + pS P 3) (eI x 19 (x.1 19 + 1))
def dy_nx (P : Pl) (t : Int32) (x : DS) : Int32 := ff (fun b => eG x 0 (nI b) = 0 ∧ (P.bx (nI b).toNatClampNeg).2.1 ≤ t) P.nb
def dy_mx1 (S : Sh) (P : Pl) (t : Int32) (m : Nat) (x : DS) : DS := if eG x 12 (nI m) = -1 then if dy_nx P t x = -1 then x else dy_mxB S P t (nI m) (dy_nx P t x) x else x
def dy_mix (S : Sh) (P : Pl) (t : Int32) (x : DS) : DS := it (dy_mx1 S P t) (qm P) x
def dy_gr1 (P : Pl) (b : Nat) (x : DS) : DS := if eG x 0 (nI b) = 2 then (if eG x 11 (nI b) = 0 then (fun x => eU x 8 (nI b) (eG x 8 (nI b) + 0)) (eU x 9 (nI b) (eG x 9 (nI b) + pS P 4)) else (fun x => eU x 8 (nI b) (eG x 8 (nI b) + 1)) (eU x 9 (nI b) (eG x 9 (nI b) + 1))) else x
def dy_gb (d : Int32) (x : DS) : DS := if dy_bk x d then eU x 18 d (eG x 18 d + 1) else eU x 18 d (eG x 18 d + 0)
def dy_stp (P : Pl) (due h : Int32) : Int32 := dy_max (-(pS P 5)) (dy_min (pS P 5) (due - h))
def dy_ghU (P : Pl) (d st : Int32) (x : DS) : DS := (fun x => eI x 20 (x.1 20 + dy_abs st)) (eU x 17 d (eG x 17 d + st))
def dy_gh (S : Sh) (P : Pl) (d : Int32) (x : DS) : DS := if eG x 16 d = -1 then x else if dy_bk x d then x else dy_ghU P d (dy_stp P (pX S P (eG x 16 d)).2.2.2.2.2.2 (eG x 17 d)) x
def dy_gd1 (S : Sh) (P : Pl) (d : Nat) (x : DS) : DS := dy_gh S P (nI d) (dy_gb (nI d) x)
def dy_gro (S : Sh) (P : Pl) (x : DS) : DS := it (dy_gd1 S P) (qd P) (it (dy_gr1 P) P.nb x)
def dy_mnt (S : Sh) (P : Pl) (t : Int32) (x : DS) : DS := dy_gro S P (dy_mix S P t (dy_she S P (dy_bak S P t (dy_res S P (dy_spo S P t (dy_end S P t x))))))
/-- the plan looked at is the row looked at; nw: how many waves -/
def pXr (q : Nat × Int32 × Int32 × Int32 × Int32 × Int32 × Int32) : Prop := ∃ d m p v b h : Nat, (d ≤ 9 ∧ 1 ≤ m ∧ m ≤ 60 ∧ 1 ≤ p ∧ p ≤ 240 ∧ v ≤ 120 ∧ 1 ≤ b ∧ b ≤ 120 ∧ 100 ≤ h ∧ h ≤ 300) ∧ q.2 = (nI d, nI m, nI p, nI v, nI b, nI h)
def pBr (S : Sh) (nw : Nat) (q : Int32 × Int32 × Int32) : Prop := ∃ p s v : Nat, (p < S.np ∧ s ≤ 999 ∧ v < nw) ∧ q = (nI p, nI s, nI v)
/-- a good plan -/
def pG (S : Sh) (P : Pl) (nw : Nat) : Prop := pOK S P ∧ (P.nb ≤ 20 ∧ S.np ≤ 8 ∧ nw ≤ 6) ∧ (∃ k, k ≤ 2 ∧ P.po = nI k) ∧ (∀ b, b < P.nb → pBr S nw (P.bx b)) ∧ (∀ k, k < S.np → pXr (S.px k)) ∧ (∀ k, k < nw → ∃ v, v < 1440 ∧ S.wf k = nI v) ∧ (∃ v, v ≤ 8 ∧ P.sf 2 = nI v) ∧ (∃ v, v ≤ 30 ∧ P.sf 3 = nI v) ∧ (∃ v, v ≤ 90 ∧ P.sf 6 = nI v) ∧ P.wc = nI nw
/-- what the twin has of products and waves -/
def rX (S : Sh) (nw : Nat) (y : TS) : Prop := (∀ k, k < S.np → (y.2.2.1 6 k, y.2.2.1 7 k, y.2.2.1 8 k, y.2.2.1 9 k, y.2.2.1 10 k, y.2.2.1 11 k) = (S.px k).2) ∧ (∀ k, k < nw → y.2.2.1 14 k = S.wf k)
/-- what the row looked at has -/
def rRw (P : Pl) (y : TS) : Prop := pn y = P.nb ∧ (∀ i, i < 7 → tG y (nI i) = P.sf i) ∧ tG y 7 = P.po ∧ ∀ b, b < P.nb → (tB y (nI b) 0, tB y (nI b) 1, tB y (nI b) 2) = P.bx b
def rP (S : Sh) (P : Pl) (nw : Nat) (y : TS) : Prop := tP y ∧ pG S P nw ∧ rX S nw y ∧ rRw P y
def rky (y : TS) : (Int32 × (Nat → Int32)) × (Nat → Int32) × (Nat → Int32) × (Nat → Int32) × (Nat → Int32) × (Nat → Int32) × (Nat → Int32) × (Nat → Int32) := (tK y, y.2.2.1 6, y.2.2.1 7, y.2.2.1 8, y.2.2.1 9, y.2.2.1 10, y.2.2.1 11, y.2.2.1 14)
theorem rky_u {y : TS} {j : Nat} {i v : Int32} (h : 14 < j) : rky (tU y j i v) = rky y := by
  unfold rky
  rw [tK_u (by omega)]
  simp only [tU_r]
  rw [if_neg (by omega), if_neg (by omega), if_neg (by omega), if_neg (by omega), if_neg (by omega), if_neg (by omega), if_neg (by omega)]
theorem rky_s {y : TS} {j : Nat} {v : Int32} (h : 14 < j) : rky (sI y j v) = rky y := by
  unfold rky
  rw [tK_sI (by omega)]
  rfl
theorem rP.k {S : Sh} {P : Pl} {nw : Nat} {y z : TS} (h : rP S P nw y) (e : rky z = rky y) : rP S P nw z := by
  have e1 : tK z = tK y := congrArg (fun q => q.1) e
  have e2 : z.2.2.1 6 = y.2.2.1 6 := congrArg (fun q => q.2.1) e
  have e3 : z.2.2.1 7 = y.2.2.1 7 := congrArg (fun q => q.2.2.1) e
  have e4 : z.2.2.1 8 = y.2.2.1 8 := congrArg (fun q => q.2.2.2.1) e
  have e5 : z.2.2.1 9 = y.2.2.1 9 := congrArg (fun q => q.2.2.2.2.1) e
  have e6 : z.2.2.1 10 = y.2.2.1 10 := congrArg (fun q => q.2.2.2.2.2.1) e
  have e7 : z.2.2.1 11 = y.2.2.1 11 := congrArg (fun q => q.2.2.2.2.2.2.1) e
  have e8 : z.2.2.1 14 = y.2.2.1 14 := congrArg (fun q => q.2.2.2.2.2.2.2) e
  obtain ⟨h1, h2, h3, h4⟩ := h
  refine ⟨h1.k e1, h2, ?_, ?_⟩
  · unfold rX
    rw [e2, e3, e4, e5, e6, e7, e8]
    exact h3
  · unfold rRw
    simp only [pn_k e1, tG_k e1, tB_k e1]
    exact h4
/-- batch k: its numbers -/
theorem rP.b {S : Sh} {P : Pl} {nw : Nat} {y : TS} (h : rP S P nw y) {k : Nat} (hk : k < P.nb) : ∃ p s v dg mx pr wi bk ht : Nat, (p < S.np ∧ p < 8 ∧ s ≤ 999 ∧ v < nw ∧ v < 6) ∧ (dg ≤ 9 ∧ 1 ≤ mx ∧ mx ≤ 60 ∧ 1 ≤ pr ∧ pr ≤ 240 ∧ wi ≤ 120 ∧ 1 ≤ bk ∧ bk ≤ 120 ∧ 100 ≤ ht ∧ ht ≤ 300) ∧ P.bx k = (nI p, nI s, nI v) ∧ (S.px p).2 = (nI dg, nI mx, nI pr, nI wi, nI bk, nI ht) ∧ tB y (nI k) 0 = nI p ∧ tB y (nI k) 1 = nI s ∧ tB y (nI k) 2 = nI v ∧ tA y 6 (nI p) = nI dg ∧ tA y 7 (nI p) = nI mx ∧ tA y 8 (nI p) = nI pr ∧ tA y 9 (nI p) = nI wi ∧ tA y 10 (nI p) = nI bk ∧ tA y 11 (nI p) = nI ht := by
  obtain ⟨h1, h2, h3, h4⟩ := h
  obtain ⟨-, ⟨l1, l2, l3⟩, -, g1, g2, -⟩ := h2
  obtain ⟨p, s, v, ⟨r1, r2, r3⟩, r4⟩ := g1 k hk
  obtain ⟨dg, mx, pr, wi, bk, ht, r5, r6⟩ := g2 p r1
  have r7 := h3.1 p r1
  rw [r6] at r7
  have r8 := h4.2.2.2 k hk
  rw [r4] at r8
  simp only [Prod.mk.injEq] at r7 r8
  have cp : (nI p).toNatClampNeg = p := nI_clamp (by omega)
  refine ⟨p, s, v, dg, mx, pr, wi, bk, ht, ⟨r1, by omega, r2, r3, by omega⟩, r5, r4, r6, r8.1, r8.2.1, r8.2.2, ?_⟩
  simp only [tA, cp]
  exact r7
theorem pX_of {S : Sh} {P : Pl} {k p : Nat} {q : Int32 × Int32} {r : Int32 × Int32 × Int32 × Int32 × Int32 × Int32} (hk : k < 2 ^ 31) (hp : p < 2 ^ 31) (h1 : P.bx k = (nI p, q)) (h2 : (S.px p).2 = r) : (pX S P (nI k)).2 = r := by
  show (S.px (P.bx (nI k).toNatClampNeg).1.toNatClampNeg).2 = r
  rw [nI_clamp hk, h1]
  show (S.px (nI p).toNatClampNeg).2 = r
  rw [nI_clamp hp]
  exact h2
theorem pG.slow {S : Sh} {P : Pl} {nw : Nat} (h : pG S P nw) : ∃ s, 2 ≤ s ∧ s ≤ 8 ∧ P.sf 4 = nI s := ⟨qs P, h.1.2.2.2.1.2.1, h.1.2.2.2.1.2.2, h.1.2.2.2.1.1⟩
theorem pG.rate {S : Sh} {P : Pl} {nw : Nat} (h : pG S P nw) : ∃ s, 1 ≤ s ∧ s ≤ 20 ∧ P.sf 5 = nI s := ⟨qr P, h.1.2.2.2.2.2.1, h.1.2.2.2.2.2.2, h.1.2.2.2.2.1⟩
theorem rP.g {S : Sh} {P : Pl} {nw : Nat} {y : TS} (h : rP S P nw y) {i : Nat} (hi : i < 7) : tG y (nI i) = P.sf i := h.2.2.2.2.1 i hi
theorem rP.hm {S : Sh} {P : Pl} {nw : Nat} {y : TS} (h : rP S P nw y) : pm y = qm P := by
  unfold pm qm; rw [show tG y 0 = P.sf 0 from h.g (i := 0) (by decide)]
theorem rP.hd {S : Sh} {P : Pl} {nw : Nat} {y : TS} (h : rP S P nw y) : pd y = qd P := by
  unfold pd qd; rw [show tG y 1 = P.sf 1 from h.g (i := 1) (by decide)]
/-- ripe, oldest -/
theorem rP.ripe {S : Sh} {P : Pl} {nw : Nat} {y : TS} (h : rP S P nw y) {k : Nat} (hk : k < P.nb) : ∃ r o, 1 ≤ r ∧ r ≤ o ∧ o ≤ 4000 ∧ tw_ripe y (nI k) = nI r ∧ dy_ripe S P (nI k) = nI r ∧ tw_old y (nI k) = nI o ∧ dy_old S P (nI k) = nI o := by
  obtain ⟨p, s, v, dg, mx, pr, wi, bk, ht, ⟨b1, b2, b3, b4, b5⟩, r, e1, e2, e3, e4, e5, e6, e7, e8, e9, e10, e11⟩ := h.b hk
  obtain ⟨sl, l1, l2, l3⟩ := h.2.1.slow
  have l4 : tG y 4 = nI sl := (h.g (i := 4) (by decide)).trans l3
  have h20 := h.2.1.2.1.1
  have x1 := pX_of (S := S) (k := k) (by omega) (by omega) e1 e2
  have x2 : pS P 4 = nI sl := l3
  refine ⟨pr * sl, (pr + wi) * sl, ?_, ?_, ?_, ?_, ?_, ?_, ?_⟩
  · exact Nat.mul_le_mul (show 1 ≤ pr by omega) (show 1 ≤ sl by omega)
  · exact Nat.mul_le_mul_right _ (by omega)
  · exact Nat.le_trans (Nat.mul_le_mul (show pr + wi ≤ 360 by omega) l2) (by decide)
  · unfold tw_ripe; rw [e3, e8, l4, pk_mul]
  · unfold dy_ripe; rw [x1, x2]; show nI sl * nI pr = _; rw [pk_mul, Nat.mul_comm]
  · unfold tw_old; rw [e3, e8, e9, l4, nI_add, pk_mul]
  · unfold dy_old dy_ripe; rw [x1, x2]; show nI sl * nI pr + nI sl * nI wi = _; rw [pk_mul, pk_mul, nI_add, Nat.add_mul, Nat.mul_comm sl pr, Nat.mul_comm sl wi]
/-- a batch's phase and shelf by its place -/
def rPh (pl ph sh : Int32) : Prop := (pl = 0 ∧ ph = 0 ∧ sh = 0) ∨ (pl = 1 ∧ ph = 1 ∧ sh = 0) ∨ (pl = 2 ∧ ph = 2 ∧ sh = 0) ∨ (pl = 3 ∧ ph = 2 ∧ sh = 1) ∨ (pl = 4 ∧ ph = 3 ∧ sh = 0) ∨ (pl = 5 ∧ ph = 4 ∧ sh = 0) ∨ (pl = 6 ∧ ph = 5 ∧ sh = 0)
/-- the numbers of a batch in the twin: place, parts, mixer, from, deck, from, end, parts then -/
def bI (T : Nat) (pl pa mi mf de bf ba pt : Int32) : Prop := (∃ a, a ≤ 8 * T ∧ pa = nI a) ∧ (pl = 0 ∨ pl = 1 → pa = 0) ∧ (pl = 5 → ∃ t, t < 1440 ∧ ba = nI t) ∧ (¬ pl = 5 → ba = -1) ∧ (mi = -1 ∨ ((∃ m, m < 3 ∧ mi = nI m) ∧ ∃ t, t ≤ 2000 ∧ mf = nI t)) ∧ ((de = -1 ∧ pt = -1) ∨ ((∃ d, d < 4 ∧ de = nI d) ∧ (∃ a, a ≤ 20000 ∧ pt = nI a) ∧ ∃ t, t < 1440 ∧ bf = nI t))
def rBe (x : DS) (y : TS) (b : Nat) : Prop := x.2.2 1 b = y.2.2.1 34 b ∧ x.2.2 2 b = y.2.2.1 35 b ∧ x.2.2 3 b = y.2.2.1 36 b ∧ x.2.2 4 b = y.2.2.1 37 b ∧ x.2.2 5 b = y.2.2.1 38 b ∧ x.2.2 6 b = y.2.2.1 39 b ∧ x.2.2 7 b = y.2.2.1 40 b ∧ x.2.2 8 b = y.2.2.1 41 b ∧ x.2.2 9 b = y.2.2.1 33 b ∧ x.2.2 10 b = y.2.2.1 42 b
def rB (T : Nat) (x : DS) (y : TS) (b : Nat) : Prop := rBe x y b ∧ rPh (y.2.2.1 32 b) (x.2.2 0 b) (x.2.2 11 b) ∧ bI T (y.2.2.1 32 b) (y.2.2.1 33 b) (y.2.2.1 34 b) (y.2.2.1 35 b) (y.2.2.1 37 b) (y.2.2.1 38 b) (y.2.2.1 39 b) (y.2.2.1 42 b)
def rM (nb : Nat) (x : DS) (y : TS) (m : Nat) : Prop := x.2.2 12 m = y.2.2.1 43 m ∧ x.2.2 14 m = y.2.2.1 45 m ∧ x.2.2 15 m = y.2.2.1 46 m ∧ (y.2.2.1 43 m = -1 ∨ (x.2.2 13 m = y.2.2.1 44 m ∧ ∃ b, b < nb ∧ y.2.2.1 43 m = nI b ∧ y.2.2.1 32 b = 1))
def bkT (S : Sh) (P : Pl) (b : Nat) : Int32 := (pX S P (nI b)).2.2.2.2.2.1
def rD (S : Sh) (P : Pl) (x : DS) (y : TS) (d : Nat) : Prop := x.2.2 17 d = y.2.2.1 50 d ∧ x.2.2 18 d = y.2.2.1 51 d ∧ (∃ h, 100 ≤ h ∧ h ≤ 300 ∧ y.2.2.1 50 d = nI h) ∧ ((x.2.2 16 d = -1 ∧ y.2.2.1 47 d = -1 ∧ y.2.2.1 48 d = -1) ∨ (∃ b, b < P.nb ∧ x.2.2 16 d = nI b ∧ y.2.2.1 47 d = nI b ∧ y.2.2.1 48 d = -1 ∧ (y.2.2.1 32 b = 2 ∨ y.2.2.1 32 b = 3)) ∨ (∃ b, b < P.nb ∧ x.2.2 16 d = nI b ∧ y.2.2.1 47 d = -1 ∧ y.2.2.1 48 d = nI b ∧ y.2.2.1 32 b = 4 ∧ y.2.2.1 49 d = y.2.2.1 38 b + bkT S P b))
/-- THE RELATION: after T minutes -/
def R (S : Sh) (P : Pl) (nw T : Nat) (x : DS) (y : TS) : Prop := rP S P nw y ∧ (x.1 21 = nI P.nb ∧ x.1 19 = y.1 52 ∧ x.1 20 = y.1 53) ∧ (∀ b, b < P.nb → rB T x y b) ∧ (∀ m, m < 3 → rM P.nb x y m) ∧ (∀ d, d < 4 → rD S P x y d) ∧ (∀ i j, i < 3 → j < 3 → y.2.2.1 43 i = y.2.2.1 43 j → i = j ∨ y.2.2.1 43 i = -1) ∧ (∀ i j, i < 4 → j < 4 → x.2.2 16 i = x.2.2 16 j → i = j ∨ x.2.2 16 i = -1) ∧ ∀ d, qd P ≤ d → d < 4 → x.2.2 16 d = -1
theorem nIi {a b : Nat} (ha : a < 100000) (hb : b < 100000) (h : nI a = nI b) : a = b := (nI_eq (by omega) (by omega)).mp h
theorem nIc {a : Nat} (ha : a < 100000) : (nI a).toNatClampNeg = a := nI_clamp (by omega)
theorem nIm {a : Nat} (ha : a < 100000) : ¬ nI a = -1 := nI_m1 (by omega)
