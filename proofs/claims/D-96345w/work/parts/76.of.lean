/-! ===== of, count ===== -/
def on_ : Nat → Int32 → Int32 → Option Int32
  | 0, _, _ => none
  | n + 1, a, x => if x = 0 then some a else on_ n (a + 1) (x &&& (x - 1))
theorem on_eq {σ : ah_S} : ∀ n a x, F_X0_ones_4 n σ a x = (on_ n a x).map (fun v => (v, σ)) := by
  intro n
  induction n with
  | zero => intro a x; rfl
  | succ n ih =>
    intro a x
    unfold F_X0_ones_4 on_
    by_cases c : x = 0
    · rw [if_pos c, if_pos c]; rfl
    · rw [if_neg c, if_neg c]; exact ih _ _
theorem on_st : ∀ n m a x, on_ n a x ≠ none → on_ (n + m) a x = on_ n a x := by
  intro n
  induction n with
  | zero => intro m a x h; exact absurd rfl h
  | succ n ih =>
    intro m a x h
    rw [show n + 1 + m = (n + m) + 1 by omega]
    unfold on_ at h ⊢
    by_cases c : x = 0
    · rw [if_pos c, if_pos c]
    · rw [if_neg c] at h
      rw [if_neg c, if_neg c]; exact ih m _ _ h
def pc_ (n : Nat) : Nat := (if n.testBit 0 then 1 else 0) + (if n.testBit 1 then 1 else 0) + (if n.testBit 2 then 1 else 0) + (if n.testBit 3 then 1 else 0) + (if n.testBit 4 then 1 else 0) + (if n.testBit 5 then 1 else 0) + (if n.testBit 6 then 1 else 0)
set_option maxRecDepth 20000 in
theorem on_all : ∀ n : Fin 128, on_ 10 0 (Int32.ofNat n.1) = some (Int32.ofNat (pc_ n.1)) := by decide +kernel
theorem fx_ones {σ : ah_S} {n : Nat} (hn : n < 128) : F_X0_ones σ (Int32.ofNat n) = some (Int32.ofNat (pc_ n), σ) := by
  have h := on_all ⟨n, hn⟩
  have h2 := on_st 10 990 0 (Int32.ofNat n) (by rw [h]; simp)
  unfold F_X0_ones
  rw [on_eq, show (1000 : Nat) = 10 + 990 from rfl, h2, h]; rfl
theorem sm_z {f : Nat → Nat} {m p : Nat} (h : ∀ q, p ≤ q → q < p + m → f q = 0) : sm_ f m p = 0 := Nat.eq_zero_of_not_pos (fun z => by
  obtain ⟨q, q1, q2, q3⟩ := (sm_pos m p).mp z
  have := h q q1 q2
  omega)
theorem sm_app {f : Nat → Nat} {k : Nat} : ∀ m p, sm_ f (m + k) p = sm_ f m p + sm_ f k (p + m) := by
  intro m
  induction m with
  | zero => intro p; rw [Nat.zero_add]; show _ = 0 + sm_ f k p; omega
  | succ m ih =>
    intro p
    rw [show m + 1 + k = (m + k) + 1 by omega, sm_s, sm_s, ih (p + 1), show p + 1 + m = p + (m + 1) by omega, Nat.add_assoc]
section
variable {σ : ah_S} {b : Nat} {z : sp_Z}
theorem op_of (hS : SW_ z) (hX : XW_ b z σ) (x1 x2 : Int32) : op_ b z σ (fun σ => F_X0_of σ (some b) x1 x2) (fun σ => F_X6_of σ (some (b + 123)) x1 x2) := by
  have s0 := XW_sk hX
  have hG : z.1.2.1 ≤ 7 := hS.2.2.2.2.2.2.2.2.1
  have hX2 := hX
  obtain ⟨ga, ra, ba, h1, -⟩ := hX
  have hp := h1.1.2.1
  have H := h1.2.2.2
  have hMp : ∀ τ, MW_ b z τ → sk_ok τ b ∧ mp_ τ b z.1.1 z.1.2.1 ∧ mh_ τ b 130 z.2.1.1 := fun τ hM => ⟨hM.1.1.1, hM.1.1.2.2.1, hM.1.2.2⟩
  generalize z.1.1 = V at *
  generalize z.1.2.1 = G at *
  generalize z.2.1.1 = h at *
  by_cases c : sp_to G x1 x2
  · obtain ⟨w, n, rfl, rfl, ht⟩ := c
    obtain ⟨w9, n100⟩ := tl_lt hG ht
    have hv := tl_vd ht
    obtain ⟨t1, t2, t3⟩ := xa_ok s0 hp.2.2.1 hv
    refine op_ret (V w (sp_ix w n)) hS hX2 ?_ (fun τ hM => ?_)
    · simp only [F_X0_of, ss_0 s0, pu_bs, fx_heldP s0 hp ht, pu_b2s]
      rw [if_neg (by simp), dy_gI t1 (by decide), pu_bs, hp.2.2.2.2 w _ hv]
    · obtain ⟨sτ, mpτ, -⟩ := hMp τ hM
      have r8 : ra_ (Int32.ofNat w) 0 8 = 1 := ra_p ⟨(nl_le_0 (by omega)).mpr (by omega), (nl_ge_8 (by omega)).mpr (by omega)⟩
      simp only [F_X6_of, fm_in_, r8, pu_b2s, nu_10, if_false, ss_123 sτ, pu_bs, fm_isOneP sτ mpτ hG ht, fm_value sτ mpτ hG ht]
  have heldN := fx_heldN s0 hp c
  by_cases c10 : x2 = 10
  · subst c10
    by_cases d : 0 ≤ x1 ∧ x1 ≤ 3
    · obtain ⟨t, rfl, h4⟩ := nu_natb (m := 3) d.1 (by decide) d.2
      have h4 : t < 4 := by omega
      refine op_ret (h t) hS hX2 ?_ (fun τ hM => ?_)
      · simp only [F_X0_of, ss_0 s0, pu_bs, heldN, pu_b2s, if_true, fx_isThing, ra_p d, nu_10, if_false, sg_18 s0, hu_400 s0 m12, hu_l1 s0 m12 h4, H.1 t h4]
      · obtain ⟨sτ, mpτ, Hτ⟩ := hMp τ hM
        unfold F_X6_of
        rw [fm_in_, pu_b2s, ra_n (by decide), if_pos rfl, fm_in_, pu_b2s, ra_p (by decide), if_neg nu_10n, fm_isThing, pu_b2s, ra_p d, if_neg nu_10n, sg_611 sτ, pu_bs, if_neg (by decide), Int32.add_zero, al_130 sτ (by omega), pu_bs, Hτ t (by omega)]
    · refine op_ret (-1) hS hX2 ?_ (fun τ hM => ?_)
      · simp only [F_X0_of, ss_0 s0, pu_bs, heldN, pu_b2s, if_true, fx_isThing, ra_n d]
      · unfold F_X6_of
        rw [fm_in_, pu_b2s, ra_n (by decide), if_pos rfl, fm_in_, pu_b2s, ra_p (by decide), if_neg nu_10n, fm_isThing, pu_b2s, ra_n d, if_pos rfl]
  by_cases c11 : x2 = 11
  · subst c11
    by_cases d : 0 ≤ x1 ∧ x1 ≤ 3
    · obtain ⟨t, rfl, h4⟩ := nu_natb (m := 3) d.1 (by decide) d.2
      have h4 : t < 4 := by omega
      refine op_ret (h (4 + t)) hS hX2 ?_ (fun τ hM => ?_)
      · unfold F_X0_of
        rw [ss_0 s0, pu_bs, heldN, pu_b2s, if_pos rfl, if_neg (by decide), if_pos rfl, fx_isThing, pu_b2s, ra_p d, if_neg nu_10n, sg_18 s0, pu_bs, hu_401 s0 m12, pu_bs, hu_l2 s0 m12 h4, pu_bs, H.2.1 t h4]
      · obtain ⟨sτ, mpτ, Hτ⟩ := hMp τ hM
        unfold F_X6_of
        rw [fm_in_, pu_b2s, ra_n (by decide), if_pos rfl, fm_in_, pu_b2s, ra_p (by decide), if_neg nu_10n, fm_isThing, pu_b2s, ra_p d, if_neg nu_10n, sg_611 sτ, pu_bs, if_pos rfl, Int32.add_comm, nl_ad_4, al_130 sτ (by omega), pu_bs, Hτ (4 + t) (by omega)]
    · refine op_ret (-1) hS hX2 ?_ (fun τ hM => ?_)
      · unfold F_X0_of
        rw [ss_0 s0, pu_bs, heldN, pu_b2s, if_pos rfl, if_neg (by decide), if_pos rfl, fx_isThing, pu_b2s, ra_n d, if_pos rfl]
      · unfold F_X6_of
        rw [fm_in_, pu_b2s, ra_n (by decide), if_pos rfl, fm_in_, pu_b2s, ra_p (by decide), if_neg nu_10n, fm_isThing, pu_b2s, ra_n d, if_pos rfl]
  by_cases c12 : x2 = 12
  · subst c12
    by_cases d : ∃ g t, x1 = Int32.ofNat (10 * g + t) ∧ g < G ∧ t < 4
    · obtain ⟨g, t, rfl, hg, h4⟩ := d
      obtain ⟨n, n1, n2, n3⟩ := H.2.2.2.2.1
      have hb := n3 g (by omega)
      have ed : (10 * g + t) / 10 = g := by omega
      have er : (10 * g + t) % 10 = t := by omega
      refine op_ret (if h (13 + g) = 0 then -2 else h (20 + (4 * g + t))) hS hX2 ?_ (fun τ hM => ?_)
      · unfold F_X0_of
        rw [ss_0 s0, pu_bs, heldN, pu_b2s, if_pos rfl, if_neg (by decide), if_neg (by decide), if_pos rfl, ss_0 s0, pu_bs, fx_gtP s0 hp hg h4, pu_b2s, if_neg nu_10n, sg_18 s0, pu_bs, hu_403 s0 m12, pu_bs, n2, nl_di_10 (by omega), pu_bs, ed, fx_isIn n1 (by omega), pu_b2s]
        by_cases w : n.testBit g = true
        · rw [if_pos w] at hb ⊢
          rw [if_neg nu_10n, hb, if_neg nu_10n, sg_18 s0, pu_bs, hu_402 s0 m12, pu_bs, pu_bs, nl_re_10 (by omega), pu_bs, er, nl_mu_4, nl_aa, hu_l3 s0 m12 (by omega), pu_bs, H.2.2.2.2.2 g t (by omega) h4 (by rw [hb]; exact nu_10n)]
        · rw [if_neg w] at hb ⊢
          rw [if_pos rfl, hb, if_pos rfl]
      · obtain ⟨sτ, mpτ, Hτ⟩ := hMp τ hM
        unfold F_X6_of
        rw [fm_in_, pu_b2s, ra_n (by decide), if_pos rfl, fm_in_, pu_b2s, ra_n (by decide), if_pos rfl, if_pos rfl, ss_123 sτ, pu_bs, fm_gtP sτ mpτ hG hg h4, pu_b2s, if_neg nu_10n, sg_611 sτ, pu_bs, nl_di_10 (by omega), pu_bs, ed, nl_ad_13, al_130 sτ (by omega), pu_bs, Hτ _ (by omega)]
        by_cases w : h (13 + g) = 0
        · rw [if_pos w, if_pos w]
        · rw [if_neg w, if_neg w, pu_bs, fm_spot (by omega), pu_b2s, ed, er, nl_ad_20, al_130 sτ (by omega), pu_bs, Hτ _ (by omega)]
    · refine op_ret (-1) hS hX2 ?_ (fun τ hM => ?_)
      · unfold F_X0_of
        rw [ss_0 s0, pu_bs, heldN, pu_b2s, if_pos rfl, if_neg (by decide), if_neg (by decide), if_pos rfl, ss_0 s0, pu_bs, fx_gtN s0 hp d, pu_b2s, if_pos rfl]
      · obtain ⟨sτ, mpτ, Hτ⟩ := hMp τ hM
        unfold F_X6_of
        rw [fm_in_, pu_b2s, ra_n (by decide), if_pos rfl, fm_in_, pu_b2s, ra_n (by decide), if_pos rfl, if_pos rfl, ss_123 sτ, pu_bs, fm_gtN sτ mpτ hG d, pu_b2s, if_pos rfl]
  refine op_ret (-1) hS hX2 ?_ (fun τ hM => ?_)
  · unfold F_X0_of
    rw [ss_0 s0, pu_bs, heldN, pu_b2s, if_pos rfl, if_neg c10, if_neg c11, if_neg c12]
  · obtain ⟨sτ, mpτ, Hτ⟩ := hMp τ hM
    unfold F_X6_of
    rw [fm_in_, pu_b2s]
    by_cases d : 0 ≤ x2 ∧ x2 ≤ 8
    · rw [ra_p d, if_neg nu_10n, ss_123 sτ, pu_bs, fm_isOneN sτ mpτ hG c, pu_b2s, if_pos rfl]
    · rw [ra_n d, if_pos rfl, fm_in_, pu_b2s, ra_n, if_pos rfl, if_neg c12]
      rintro ⟨e1, e2⟩
      obtain ⟨m, rfl, hm⟩ := nu_natb (m := 11) (Int32.le_trans (by decide) e1) (by decide) e2
      have := (nl_le_10 (by omega)).mp e1
      rcases (show m = 10 ∨ m = 11 by omega) with rfl | rfl
      · exact c10 rfl
      · exact c11 rfl
theorem op_count (hS : SW_ z) (hX : XW_ b z σ) (x : Int32) : op_ b z σ (fun σ => F_X0_count σ (some b) x) (fun σ => F_X6_count σ (some (b + 123)) x) := by
  have s0 := XW_sk hX
  have hX2 := hX
  obtain ⟨ga, ra, ba, h1, h2, h3, h4, h5, h6⟩ := hX
  by_cases c0 : x = 0
  · refine op_ret (Int32.ofNat z.1.2.1) hS hX2 ?_ (fun τ hM => ?_)
    · simp only [F_X0_count, if_pos c0, si_8 s0, pu_bs, h1.1.2.1.2.1]
    · simp only [F_X6_count, if_pos c0, si_603 hM.1.1.1, pu_bs, hM.1.1.2.2.1.1]
  by_cases c1 : x = 1
  · have hG : z.1.2.1 ≤ 7 := hS.2.2.2.2.2.2.2.2.1
    have hz : ∀ g, z.1.2.1 ≤ g → g < 7 → z.2.1.1 (13 + g) = 0 := hS.2.2.2.2.2.2.2.2.2.2.2.2.1
    obtain ⟨n, n1, n2, n3⟩ := h1.2.2.2.2.2.2.2.1
    have bit : ∀ g, g < 7 → z.2.1.1 (13 + g) = Int32.ofNat (if n.testBit g then 1 else 0) := fun g hg => by
      rw [n3 g hg]; split <;> rfl
    have zb : ∀ g, z.1.2.1 ≤ g → g < 7 → (if n.testBit g then 1 else 0 : Nat) = 0 := fun g q1 q2 => by
      have := bit g q2
      rw [hz g q1 q2] at this
      split at this
      · exact absurd this (by decide)
      · rename_i w; rw [if_neg w]
    refine op_ret (Int32.ofNat (pc_ n)) hS hX2 ?_ (fun τ hM => ?_)
    · unfold F_X0_count
      rw [if_neg c0, if_pos c1, sg_18 s0, pu_bs, hu_403 s0 m12, pu_bs, n2, fx_ones n1, pu_b2s]
    · have sτ := hM.1.1.1
      have hp : mp_ τ b z.1.1 z.1.2.1 := hM.1.1.2.2.1
      have H : mh_ τ b 130 z.2.1.1 := hM.1.2.2
      generalize z.1.2.1 = G at *
      have st : ∀ g f a, g < G → F_X6_beenMany_4 (f + 1) τ (some (b + 123)) (Int32.ofNat a) (Int32.ofNat g) = F_X6_beenMany_4 f τ (some (b + 123)) (Int32.ofNat (a + (if n.testBit g then 1 else 0))) (Int32.ofNat (g + 1)) := fun g f a hg => by
        show (ah_gI τ 603 (some (b + 123))).bind _ = _
        rw [si_603 sτ, pu_bs, hp.1, if_neg (by rw [nu_ofle (by omega) (by omega)]; omega), sg_611 sτ, pu_bs, nl_ad_13, al_130 sτ (by omega), pu_bs, H _ (by omega), bit g (by omega), nl_aa, nl_ar_1]
      have en : ∀ f a, F_X6_beenMany_4 (f + 1) τ (some (b + 123)) (Int32.ofNat a) (Int32.ofNat G) = some (Int32.ofNat a, τ) := fun f a => by
        show (ah_gI τ 603 (some (b + 123))).bind _ = _
        rw [si_603 sτ, pu_bs, hp.1, if_pos (Int32.le_refl _)]
      have run : ∀ m g f a, g + m = G → m < f → F_X6_beenMany_4 f τ (some (b + 123)) (Int32.ofNat a) (Int32.ofNat g) = some (Int32.ofNat (a + sm_ (fun g => if n.testBit g then 1 else 0) m g), τ) := by
        intro m
        induction m with
        | zero =>
          intro g f a hg hf
          obtain ⟨f, rfl⟩ : ∃ z, f = z + 1 := ⟨f - 1, by omega⟩
          rw [show g = G by omega, en]; rfl
        | succ m ih =>
          intro g f a hg hf
          obtain ⟨f, rfl⟩ : ∃ z, f = z + 1 := ⟨f - 1, by omega⟩
          rw [st g f a (by omega), ih (g + 1) f _ (by omega) (by omega), sm_s, Nat.add_assoc]
      have all : F_X6_beenMany τ (some (b + 123)) = some (Int32.ofNat (pc_ n), τ) := by
        have r := run G 0 1000 0 (by omega) (by omega)
        have e7 : pc_ n = sm_ (fun g => if n.testBit g then 1 else 0) 7 0 := by
          unfold pc_
          simp only [sm_, Nat.zero_add, Nat.reduceAdd, Nat.add_zero]
          omega
        have eG : sm_ (fun g => if n.testBit g then 1 else 0) 7 0 = sm_ (fun g => if n.testBit g then 1 else 0) G 0 := by
          have a7 := sm_app (f := fun g => if n.testBit g then 1 else 0) (k := 7 - G) G 0
          rw [show G + (7 - G) = 7 by omega] at a7
          rw [a7, sm_z (p := 0 + G) (fun q q1 q2 => zb q (by omega) (by omega)), Nat.add_zero]
        rw [e7, eG]
        rw [Nat.zero_add] at r
        exact r
      unfold F_X6_count
      rw [if_neg c0, if_pos c1, ss_123 sτ, pu_bs, all, pu_b2s]
  by_cases c2 : x = 2
  · refine op_ret (Int32.ofNat z.2.2.1.2) hS hX2 ?_ (fun τ hM => ?_)
    · simp only [F_X0_count, if_neg c0, if_neg c1, if_pos c2, si_4 s0, pu_bs, h4.1]
    · simp only [F_X6_count, if_neg c0, if_neg c1, if_pos c2, si_619 hM.1.1.1, pu_bs, hM.2.2.2.2.1.1]
  by_cases c3 : x = 3
  · refine op_ret (Int32.ofNat z.2.2.2.1.2.1) hS hX2 ?_ (fun τ hM => ?_)
    · simp only [F_X0_count, if_neg c0, if_neg c1, if_neg c2, if_pos c3, si_2 s0, pu_bs, h5.1]
    · simp only [F_X6_count, if_neg c0, if_neg c1, if_neg c2, if_pos c3, si_612 hM.1.1.1, pu_bs, hM.2.2.2.2.2.1.1]
  by_cases c4 : x = 4
  · refine op_ret (Int32.ofNat z.2.2.2.2.1.1) hS hX2 ?_ (fun τ hM => ?_)
    · simp only [F_X0_count, if_neg c0, if_neg c1, if_neg c2, if_neg c3, if_pos c4, si_38 s0, pu_bs, h1.2.2.1.2.1]
    · simp only [F_X6_count, if_neg c0, if_neg c1, if_neg c2, if_neg c3, if_pos c4, si_652 hM.1.1.1, pu_bs, hM.2.1.1]
  by_cases c5 : x = 5
  · refine op_ret z.2.2.2.2.2.1.1 hS hX2 ?_ (fun τ hM => ?_)
    · simp only [F_X0_count, if_neg c0, if_neg c1, if_neg c2, if_neg c3, if_neg c4, if_pos c5, si_40 s0, pu_bs, h6.1]
    · simp only [F_X6_count, if_neg c0, if_neg c1, if_neg c2, if_neg c3, if_neg c4, if_pos c5, si_654 hM.1.1.1, pu_bs, hM.2.2.2.2.2.2.1]
  refine op_ret (-1) hS hX2 ?_ (fun τ hM => ?_)
  · simp only [F_X0_count, if_neg c0, if_neg c1, if_neg c2, if_neg c3, if_neg c4, if_neg c5]
  · simp only [F_X6_count, if_neg c0, if_neg c1, if_neg c2, if_neg c3, if_neg c4, if_neg c5]
end
