/-! ===== the whole state, and what both sides hold of it ===== -/
abbrev sp_C : Type := Nat → Nat × Nat × Int32 × Int32
/-- ((V, G, law), (hut, deed, image), (tape, its length), (changes, done, many), (bodies, kinds), (ran, trace), (holds, sizes, elements)) -/
abbrev sp_Z : Type := (sp_V × Nat × sp_W) × (sp_H × (Nat → Int32) × Option (sp_H × (Nat → Int32))) × ((Nat → Int32) × Nat) × (sp_C × Nat × Nat) × (Nat × (Nat → Nat)) × (Int32 × (Nat → Int32)) × ((Nat → Int32) × (Nat → Nat) × sp_E)
def xd_ (σ : ah_S) (b k : Nat) (d : Nat → Int32) : Prop := ∀ i, i < 4 → ah_ai σ (b + k) i = d i
def xm_ (σ : ah_S) (b : Nat) : Option (sp_H × (Nat → Int32)) → Prop
  | none => ah_fi σ 34 b = 0
  | some p => ah_fi σ 34 b = 1 ∧ xh_ σ b 66 p.1 ∧ xd_ σ b 71 p.2
def mm_ (σ : ah_S) (b : Nat) : Option (sp_H × (Nat → Int32)) → Prop
  | none => ah_fi σ 649 (b + 123) = 0
  | some p => ah_fi σ 649 (b + 123) = 1 ∧ mh_ σ b 155 p.1 ∧ xd_ σ b 156 p.2
def xtp_ (σ : ah_S) (b : Nat) (tp : Nat → Int32) (n : Nat) : Prop := ah_fi σ 4 b = Int32.ofNat n ∧ ∀ i, i < n → ah_ai σ (b + 2) i = tp i
def mtp_ (σ : ah_S) (b : Nat) (tp : Nat → Int32) (n : Nat) : Prop := ah_fi σ 619 (b + 123) = Int32.ofNat n ∧ ∀ i, i < n → ah_ai σ (b + 135) i = (tp i).toInt8.toInt32
def xtr_ (σ : ah_S) (b : Nat) (r : Int32) (tr : Nat → Int32) : Prop := ah_fi σ 40 b = r ∧ ∀ i, i < 24 → ah_ai σ (b + 73) i = tr i
def mtr_ (σ : ah_S) (b : Nat) (r : Int32) (tr : Nat → Int32) : Prop := ah_fi σ 654 (b + 123) = r ∧ ∀ i, i < 24 → ah_ai σ (b + 158) i = tr i
/-- the place of a number that may be mended, as it is told -/
def sp_ix (w n : Nat) : Nat := if w = 2 ∨ w = 3 then 4 * (n / 10) + n % 10 else n
/-- told rightly -/
def sp_tl (G w n : Nat) : Prop := (w < 2 ∧ n < 4) ∨ ((w = 2 ∨ w = 3) ∧ n / 10 < G ∧ n % 10 < 4) ∨ ((w = 4 ∨ w = 5) ∧ n < G) ∨ (6 ≤ w ∧ w < 9 ∧ n = 0)
def xch_ (σ : ah_S) (b : Nat) (ga : Nat → Nat) (c : sp_C) (dn mn : Nat) : Prop := ah_fi σ 2 b = Int32.ofNat dn ∧ ah_fi σ 1 b = Int32.ofNat mn ∧ ∃ ca : Nat → Nat, (∀ k, k < 40 → ah_ar σ (b + 1) k = some (b + (75 + ca k)) ∧ ca k < 40) ∧ (∀ j k, j < 40 → k < 40 → ca j = ca k → j = k) ∧ ∀ k, k < mn → ah_fr σ 500 (b + (75 + ca k)) = some (xa_ b ga (c k).1 (sp_ix (c k).1 (c k).2.1)) ∧ ah_fi σ 501 (b + (75 + ca k)) = (c k).2.2.1 ∧ ah_fi σ 502 (b + (75 + ca k)) = (c k).2.2.2
def mch_ (σ : ah_S) (b : Nat) (c : sp_C) (dn mn : Nat) : Prop := ah_fi σ 612 (b + 123) = Int32.ofNat dn ∧ ah_fi σ 613 (b + 123) = Int32.ofNat (mn - dn) ∧ ∀ k, k < mn → ah_ai σ (b + 131) k = Int32.ofNat (c k).1 ∧ ah_ai σ (b + 132) k = Int32.ofNat (c k).2.1 ∧ ah_ai σ (b + 133) k = (c k).2.2.1 ∧ ah_ai σ (b + 134) k = (c k).2.2.2
def XW_ (b : Nat) (z : sp_Z) (σ : ah_S) : Prop := ∃ ga ra ba, qx_ b ga ra ba z.2.2.2.2.1.1 z.2.2.2.2.1.2 z.2.2.2.2.2.2.1 z.2.2.2.2.2.2.2.1 z.2.2.2.2.2.2.2.2 z.1.1 z.1.2.1 z.1.2.2 z.2.1.1 σ ∧ xd_ σ b 65 z.2.1.2.1 ∧ xm_ σ b z.2.1.2.2 ∧ xtp_ σ b z.2.2.1.1 z.2.2.1.2 ∧ xch_ σ b ga z.2.2.2.1.1 z.2.2.2.1.2.1 z.2.2.2.1.2.2 ∧ xtr_ σ b z.2.2.2.2.2.1.1 z.2.2.2.2.2.1.2
def MW_ (b : Nat) (z : sp_Z) (σ : ah_S) : Prop := qm_ b z.2.2.2.2.2.2.1 z.2.2.2.2.2.2.2.1 z.2.2.2.2.2.2.2.2 z.1.1 z.1.2.1 z.1.2.2 z.2.1.1 σ ∧ mb_ σ b z.2.2.2.2.1.1 z.2.2.2.2.1.2 ∧ xd_ σ b 154 z.2.1.2.1 ∧ mm_ σ b z.2.1.2.2 ∧ mtp_ σ b z.2.2.1.1 z.2.2.1.2 ∧ mch_ σ b z.2.2.2.1.1 z.2.2.2.1.2.1 z.2.2.2.1.2.2 ∧ mtr_ σ b z.2.2.2.2.2.1.1 z.2.2.2.2.2.1.2
/-- what holds of the state alone -/
def SW_ (z : sp_Z) : Prop := sw_ z.2.2.2.2.2.2.1 z.2.2.2.2.2.2.2.1 z.2.2.2.2.2.2.2.2 z.2.2.2.2.1.1 ∧ sp_hw z.2.1.1 ∧ (∀ p, z.2.1.2.2 = some p → sp_hw p.1) ∧ z.2.2.1.2 ≤ 120 ∧ (∀ i, i < z.2.2.1.2 → nu_in (z.2.2.1.1 i) 255) ∧ z.2.2.2.1.2.1 ≤ z.2.2.2.1.2.2 ∧ z.2.2.2.1.2.2 ≤ 40 ∧ (∀ k, k < z.2.2.2.1.2.2 → sp_tl z.1.2.1 (z.2.2.2.1.1 k).1 (z.2.2.2.1.1 k).2.1 ∧ nu_in (z.2.2.2.1.1 k).2.2.1 (sp_mx (z.2.2.2.1.1 k).1) ∧ nu_in (z.2.2.2.1.1 k).2.2.2 (sp_mx (z.2.2.2.1.1 k).1)) ∧ z.1.2.1 ≤ 7 ∧ z.2.2.2.2.1.1 ≤ 50 ∧ (∀ j, j < z.2.2.2.2.1.1 → z.2.2.2.2.1.2 j ≤ 7) ∧ sp_rg z.1.2.1 z.1.1 ∧ (∀ g, z.1.2.1 ≤ g → g < 7 → z.2.1.1 (13 + g) = 0) ∧ (∀ p, z.2.1.2.2 = some p → ∀ g, z.1.2.1 ≤ g → g < 7 → p.1 (13 + g) = 0) ∧ nu_in z.2.2.2.2.2.1.1 100
def LXa_ : List Nat := [0, 1, 2, 3, 4, 5, 6, 7, 8, 9, 10, 11, 12, 13, 14, 15, 16, 17, 18, 19, 50, 51, 52, 60, 61, 62, 63, 64, 65, 66, 67]
def LMa_ : List Nat := [20, 21, 22, 23, 24, 25, 26, 27, 28, 29, 30, 31, 32, 33, 34, 35, 36, 37, 38, 39, 41, 42, 53, 54, 55]
def bu_ (σ : ah_S) : Prop := 2000 ≤ ah_rc σ ∧ 100000 ≤ ah_rs σ
/-- both answer alike, and hold the same state behind it -/
def op_ {α : Type} (b : Nat) (z : sp_Z) (σ : ah_S) (FX FM : ah_S → Option (α × ah_S)) : Prop := ∃ v z', SW_ z' ∧ pu_ok (FX σ) (fun r => r.1 = v ∧ XW_ b z' r.2 ∧ ag_ b LXa_ σ r.2 ∧ ah_nx r.2 ≤ ah_nx σ + 1000) ∧ (∀ τ, MW_ b z τ → pu_ok (FM τ) (fun r => r.1 = v ∧ MW_ b z' r.2 ∧ ag_ b LMa_ τ r.2))
section
variable {σ τ : ah_S} {b : Nat} {L : List Nat}
theorem xd_ag {k : Nat} {d : Nat → Int32} (A : ag_ b L σ τ) (h0 : sk_ok σ b) (hk : k < 163) (hl : sk_B.getD k 99 ∉ L) (H : xd_ σ b k d) : xd_ τ b k d := fun i hi => by rw [ag_ai A h0 hk hl]; exact H i hi
theorem xm_ag {p : Option (sp_H × (Nat → Int32))} (A : ag_ b L σ τ) (h0 : sk_ok σ b) (hl : 7 ∉ L ∧ 67 ∉ L) (H : xm_ σ b p) : xm_ τ b p := by
  have e : ah_fi τ 34 b = ah_fi σ 34 b := ag_fi (k := 0) A h0 (by decide) (by decide) (by exact hl.2)
  cases p with
  | none => exact e.trans H
  | some p => exact ⟨e.trans H.1, xh_ag A h0 (by decide) (by exact hl.1) H.2.1, xd_ag A h0 (by decide) (by exact hl.1) H.2.2⟩
theorem mm_ag {p : Option (sp_H × (Nat → Int32))} (A : ag_ b L σ τ) (h0 : sk_ok σ b) (hl : 27 ∉ L) (H : mm_ σ b p) : mm_ τ b p := by
  have e : ah_fi τ 649 (b + 123) = ah_fi σ 649 (b + 123) := ag_fi A h0 (by decide) (by decide) (by exact hl)
  cases p with
  | none => exact e.trans H
  | some p => exact ⟨e.trans H.1, mh_ag A h0 (by decide) (by exact hl) H.2.1, xd_ag A h0 (by decide) (by exact hl) H.2.2⟩
theorem xtp_ag {tp : Nat → Int32} {n : Nat} (A : ag_ b L σ τ) (h0 : sk_ok σ b) (hl : 2 ∉ L) (H : xtp_ σ b tp n) : xtp_ τ b tp n := ⟨by rw [← H.1]; exact ag_fi (k := 0) A h0 (by decide) (by decide) (by exact hl), fun i hi => by rw [ag_ai A h0 (by decide) (by exact hl)]; exact H.2 i hi⟩
theorem mtp_ag {tp : Nat → Int32} {n : Nat} (A : ag_ b L σ τ) (h0 : sk_ok σ b) (hl : 22 ∉ L) (H : mtp_ σ b tp n) : mtp_ τ b tp n := ⟨by rw [← H.1]; exact ag_fi A h0 (by decide) (by decide) (by exact hl), fun i hi => by rw [ag_ai A h0 (by decide) (by exact hl)]; exact H.2 i hi⟩
theorem xtr_ag {r : Int32} {tr : Nat → Int32} (A : ag_ b L σ τ) (h0 : sk_ok σ b) (hl : 9 ∉ L) (H : xtr_ σ b r tr) : xtr_ τ b r tr := ⟨by rw [← H.1]; exact ag_fi (k := 0) A h0 (by decide) (by decide) (by exact hl), fun i hi => by rw [ag_ai A h0 (by decide) (by exact hl)]; exact H.2 i hi⟩
theorem mtr_ag {r : Int32} {tr : Nat → Int32} (A : ag_ b L σ τ) (h0 : sk_ok σ b) (hl : 29 ∉ L) (H : mtr_ σ b r tr) : mtr_ τ b r tr := ⟨by rw [← H.1]; exact ag_fi A h0 (by decide) (by decide) (by exact hl), fun i hi => by rw [ag_ai A h0 (by decide) (by exact hl)]; exact H.2 i hi⟩
theorem ch_lb : ∀ k, k < 40 → sk_B.getD (75 + k) 99 = 1 ∧ sk_T.getD (75 + k) 0 = 6 := by decide
theorem xch_ag {ga : Nat → Nat} {c : sp_C} {dn mn : Nat} (A : ag_ b L σ τ) (h0 : sk_ok σ b) (hl : 1 ∉ L) (hm : mn ≤ 40) (H : xch_ σ b ga c dn mn) : xch_ τ b ga c dn mn := by
  obtain ⟨h1, h2, ca, h3, h4, h5⟩ := H
  refine ⟨by rw [← h1]; exact ag_fi (k := 0) A h0 (by decide) (by decide) (by exact hl), by rw [← h2]; exact ag_fi (k := 0) A h0 (by decide) (by decide) (by exact hl), ca, fun k hk => ⟨by rw [ag_ar A h0 (by decide) (by exact hl)]; exact (h3 k hk).1, (h3 k hk).2⟩, h4, fun k hk => ?_⟩
  obtain ⟨q1, q2, q3⟩ := h5 k hk
  have hc := (h3 k (by omega)).2
  obtain ⟨l1, -⟩ := ch_lb (ca k) hc
  refine ⟨?_, ?_, ?_⟩
  · rw [A.2.2.2.2.2.2.2.1 500 _ (by have := h0.1; omega) (by exact hl)]; exact q1
  · rw [ag_fc A h0 (by omega) (by decide) (by rw [l1]; exact hl)]; exact q2
  · rw [ag_fc A h0 (by omega) (by decide) (by rw [l1]; exact hl)]; exact q3
theorem mch_ag {c : sp_C} {dn mn : Nat} (A : ag_ b L σ τ) (h0 : sk_ok σ b) (hl : 21 ∉ L) (H : mch_ σ b c dn mn) : mch_ τ b c dn mn := by
  obtain ⟨h1, h2, h3⟩ := H
  refine ⟨by rw [← h1]; exact ag_fi A h0 (by decide) (by decide) (by exact hl), by rw [← h2]; exact ag_fi A h0 (by decide) (by decide) (by exact hl), fun k hk => ?_⟩
  rw [ag_ai A h0 (by decide) (by exact hl), ag_ai A h0 (by decide) (by exact hl), ag_ai A h0 (by decide) (by exact hl), ag_ai A h0 (by decide) (by exact hl)]
  exact h3 k hk
theorem qx_ag {ga ra ba : Nat → Nat} {nb : Nat} {kd : Nat → Nat} {hd : Nat → Int32} {sz : Nat → Nat} {el : sp_E} {V : sp_V} {G : Nat} {lw : sp_W} {h : sp_H} (A : ag_ b L σ τ) (hl : (0 ∉ L ∧ 3 ∉ L ∧ 99 ∉ L) ∧ 10 ∉ L ∧ 8 ∉ L ∧ 4 ∉ L) (H : qx_ b ga ra ba nb kd hd sz el V G lw h σ) : qx_ b ga ra ba nb kd hd sz el V G lw h τ := ⟨xk_ag A hl.1 H.1, xs_ag A H.1.1 hl.2.1 H.2.1, xb_ag A H.1.1 hl.2.2.1 hl.1.2.2 H.2.2.1, xh_ag A H.1.1 m12 (by exact hl.2.2.2) H.2.2.2⟩
theorem XW_ag {z : sp_Z} (A : ag_ b L σ τ) (hS : SW_ z) (hl : ((0 ∉ L ∧ 3 ∉ L ∧ 99 ∉ L) ∧ 10 ∉ L ∧ 8 ∉ L ∧ 4 ∉ L) ∧ 6 ∉ L ∧ (7 ∉ L ∧ 67 ∉ L) ∧ 2 ∉ L ∧ 1 ∉ L ∧ 9 ∉ L) (H : XW_ b z σ) : XW_ b z τ := by
  obtain ⟨ga, ra, ba, h1, h2, h3, h4, h5, h6⟩ := H
  have h0 := h1.1.1
  exact ⟨ga, ra, ba, qx_ag A hl.1 h1, xd_ag A h0 (by decide) (by exact hl.2.1) h2, xm_ag A h0 hl.2.2.1 h3, xtp_ag A h0 hl.2.2.2.1 h4, xch_ag A h0 hl.2.2.2.2.1 hS.2.2.2.2.2.2.1 h5, xtr_ag A h0 hl.2.2.2.2.2 h6⟩
theorem MW_ag {z : sp_Z} (A : ag_ b L σ τ) (hl : (20 ∉ L ∧ 23 ∉ L) ∧ 30 ∉ L ∧ 28 ∉ L ∧ 26 ∉ L ∧ 27 ∉ L ∧ 22 ∉ L ∧ 21 ∉ L ∧ 29 ∉ L) (hh : mh_ τ b 130 z.2.1.1) (H : MW_ b z σ) : MW_ b z τ := by
  obtain ⟨⟨g1, g2, g3⟩, h2, h3, h4, h5, h6, h7⟩ := H
  have h0 := g1.1
  exact ⟨⟨mk_ag A hl.1 g1, ms_ag A h0 hl.2.1 g2, hh⟩, mb_ag A h0 hl.2.2.1 h2, xd_ag A h0 (by decide) (by exact hl.2.2.2.1) h3, mm_ag A h0 hl.2.2.2.2.1 h4, mtp_ag A h0 hl.2.2.2.2.2.1 h5, mch_ag A h0 hl.2.2.2.2.2.2.1 h6, mtr_ag A h0 hl.2.2.2.2.2.2.2 h7⟩
/-- the model's world is untouched by the class, and the other way round -/
theorem MW_x {z : sp_Z} (A : ag_ b LXa_ σ τ) (H : MW_ b z σ) : MW_ b z τ := MW_ag A (by decide) (mh_ag A H.1.1.1 (by decide) (by decide) H.1.2.2) H
theorem XW_m {z : sp_Z} (A : ag_ b LMa_ σ τ) (hS : SW_ z) (H : XW_ b z σ) : XW_ b z τ := XW_ag A hS (by decide) H
/-- a question is an operation -/
theorem op_qq {α : Type} {z : sp_Z} {FX FM : ah_S → Option (α × ah_S)} (hS : SW_ z) (hX : XW_ b z σ) (H : ∀ ga ra ba, qq_ b ga ra ba z.2.2.2.2.1.1 z.2.2.2.2.1.2 z.2.2.2.2.2.2.1 z.2.2.2.2.2.2.2.1 z.2.2.2.2.2.2.2.2 z.1.1 z.1.2.1 z.1.2.2 z.2.1.1 FX FM) : op_ b z σ FX FM := by
  obtain ⟨ga, ra, ba, h1, h2⟩ := id hX
  obtain ⟨v, q1, q2⟩ := H ga ra ba
  refine ⟨v, z, hS, pu_mono (q1 σ h1) (fun r hr => ⟨hr.1, XW_ag hr.2 hS (by decide) hX, ag_mo (by decide) hr.2, ?_⟩), fun τ hM => pu_mono (q2 τ hM.1) (fun r hr => ⟨hr.1, MW_ag hr.2.1 (by decide) hr.2.2 hM, ag_mo (by decide) hr.2.1⟩)⟩
  have := hr.2.2.2.1 (by decide)
  omega
theorem op_tin {z : sp_Z} {FX FM : ah_S → Option (Int64 × ah_S)} (hS : SW_ z) (hX : XW_ b z σ) (hb : bu_ σ) (H : ∀ ga ra ba, qt_ b ga ra ba z.2.2.2.2.1.1 z.2.2.2.2.1.2 z.2.2.2.2.2.2.1 z.2.2.2.2.2.2.2.1 z.2.2.2.2.2.2.2.2 z.1.1 z.1.2.1 z.1.2.2 z.2.1.1 FX FM) : op_ b z σ FX FM := by
  obtain ⟨ga, ra, ba, h1, h2⟩ := id hX
  obtain ⟨v, q1, q2⟩ := H ga ra ba
  refine ⟨v, z, hS, pu_mono (q1 σ h1 (by have := hb.1; omega) (by have := hb.2; omega)) (fun r hr => ⟨hr.1, XW_ag hr.2.1 hS (by decide) hX, ag_mo (by decide) hr.2.1, by have := hr.2.2; omega⟩), fun τ hM => pu_mono (q2 τ hM.1) (fun r hr => ⟨hr.1, MW_ag hr.2.1 (by decide) hr.2.2 hM, ag_mo (by decide) hr.2.1⟩)⟩
end
