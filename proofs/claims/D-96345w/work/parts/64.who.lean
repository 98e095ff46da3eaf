/-! ===== ways, who ===== -/
section
variable {σ : ah_S} {b nb G : Nat} {ga ra ba kd : Nat → Nat} {hd : Nat → Int32} {sz : Nat → Nat} {el : sp_E} {V : sp_V} {lw : sp_W} {h : sp_H} {s : Nat → Int32} {n : Nat}
theorem sm_le {f : Nat → Nat} {B : Nat} (hf : ∀ q, f q ≤ B) : ∀ m p, sm_ f m p ≤ m * B := by
  intro m
  induction m with
  | zero => intro p; exact Nat.zero_le _
  | succ m ih =>
    intro p
    rw [sm_s, Nat.succ_mul]
    have := ih (p + 1)
    have := hf p
    omega
theorem wy_le {u : Nat → Int32} {t M a ag : Nat} (hG : G ≤ 7) : ∀ d k h, wy_ V G lw u t M a ag d k h ≤ 8 ^ d := by
  intro d
  induction d with
  | zero => intro k h; exact Nat.zero_le _
  | succ d ih =>
    intro k h
    have h8 : 0 < 8 ^ d := Nat.pow_pos (by decide)
    have e8 : 8 ^ (d + 1) = 8 * 8 ^ d := by rw [Nat.pow_succ, Nat.mul_comm]
    unfold wy_
    by_cases c : k = M
    · rw [if_pos c]; omega
    · rw [if_neg c]
      refine Nat.le_trans (sm_le (B := 8 ^ d) (fun q => ?_) (G + 1) 0) ?_
      · split
        · omega
        · split
          · exact ih _ _
          · omega
      · rw [e8]
        exact Nat.mul_le_mul_right _ (by omega)
theorem wy_lt {u : Nat → Int32} {t M a ag k : Nat} (hG : G ≤ 7) : wy_ V G lw u t M a ag 10 k h < 2147483648 := Nat.lt_of_le_of_lt (wy_le hG 10 k h) (by decide)
def wb_ (V : sp_V) (G : Nat) (lw : sp_W) (u : Nat → Int32) (t M a : Nat) (h : sp_H) : Nat → Nat → Nat → Nat
  | 0, _, x => x
  | m + 1, g, x => wb_ V G lw u t M a h m (g + 1) (if 0 < wy_ V G lw u t M a g 10 0 h then x ||| 2 ^ eb_ G g else x)
theorem wb_tb {u : Nat → Int32} {t M a j : Nat} : ∀ m g x, (wb_ V G lw u t M a h m g x).testBit j = true ↔ x.testBit j = true ∨ ∃ q, g ≤ q ∧ q < g + m ∧ j = eb_ G q ∧ 0 < wy_ V G lw u t M a q 10 0 h := by
  intro m
  induction m with
  | zero => intro g x; exact ⟨fun q => Or.inl q, fun q => q.elim id (fun ⟨q, h1, h2, _⟩ => absurd h2 (by omega))⟩
  | succ m ih =>
    intro g x
    unfold wb_
    rw [ih]
    by_cases c : 0 < wy_ V G lw u t M a g 10 0 h
    · rw [if_pos c, or_tb, Bool.or_eq_true, decide_eq_true_eq]
      constructor
      · rintro ((q | q) | ⟨q, h1, h2, h3⟩)
        · exact Or.inl q
        · exact Or.inr ⟨g, by omega, by omega, q, c⟩
        · exact Or.inr ⟨q, by omega, by omega, h3⟩
      · rintro (q | ⟨q, h1, h2, h3, h5⟩)
        · exact Or.inl (Or.inl q)
        · by_cases z : q = g
          · subst z; exact Or.inl (Or.inr h3)
          · exact Or.inr ⟨q, by omega, by omega, h3, h5⟩
    · rw [if_neg c]
      constructor
      · rintro (q | ⟨q, h1, h2, h3⟩)
        · exact Or.inl q
        · exact Or.inr ⟨q, by omega, by omega, h3⟩
      · rintro (q | ⟨q, h1, h2, h3, h5⟩)
        · exact Or.inl q
        · by_cases z : q = g
          · subst z; exact absurd h5 c
          · exact Or.inr ⟨q, by omega, by omega, h3, h5⟩
theorem who_eq {u : Nat → Int32} {t M a : Nat} (ha : a < M) (hM : M ≤ 6) (hG : G ≤ 7) : (xy_ V G lw u t M 10 0 h (fun _ => 0) (0, fun _ => 0)).2 a = wb_ V G lw u t M a h (G + 1) 0 0 := by
  apply Nat.eq_of_testBit_eq
  intro j
  rw [Bool.eq_iff_iff, xy_set ha hG 10 0 h _ _ (by omega) (by omega), wb_tb]
  constructor
  · rintro (q | ⟨q, -⟩ | ⟨-, g, h1, h2, h3⟩)
    · exact Or.inl q
    · omega
    · exact Or.inr ⟨g, by omega, by omega, h2, h3⟩
  · rintro (q | ⟨g, h1, h2, h3, h5⟩)
    · exact Or.inl q
    · exact Or.inr (Or.inr ⟨by omega, g, by omega, h3, h5⟩)
theorem lm_who {u : Nat → Int32} {t M a N : Nat} (h4 : t < 4) (hM : M ≤ 6) (hMN : M ≤ N) (ha : a < M) : ∀ m g x σ q, g + m = G + 1 → m < q → x < 256 → mk_ σ b V G lw → mse_ σ b u N → mh_ σ b 130 h → pu_ok (F_X6_who_78 q σ (some (b + 123)) (Int32.ofNat t) (Int32.ofNat a) (Int32.ofNat M) (Int32.ofNat x) (Int32.ofNat g)) (fun r => r.1 = Int32.ofNat (wb_ V G lw u t M a h m g x) ∧ ag_ b [24, 25, 31, 39, 41, 54, 55] σ r.2 ∧ mh_ r.2 b 130 h) := by
  intro m
  induction m with
  | zero =>
    intro g x σ q hg hq hx hm hs H
    obtain ⟨q, rfl⟩ : ∃ z, q = z + 1 := ⟨q - 1, by omega⟩
    have s0 := hm.1
    have hG := hm.2.1
    unfold F_X6_who_78
    rw [si_603 s0, pu_bs, hm.2.2.1.1, if_pos ((nu_oflt (by omega) (by omega)).mpr (by omega))]
    exact pu_ret ⟨rfl, ag_rf _ s0, H⟩
  | succ m ih =>
    intro g x σ q hg hq hx hm hs H
    obtain ⟨q, rfl⟩ : ∃ z, q = z + 1 := ⟨q - 1, by omega⟩
    have s0 := hm.1
    have hG := hm.2.1
    unfold F_X6_who_78 wb_
    rw [si_603 s0, pu_bs, hm.2.2.1.1, if_neg (fun z => by have := (nu_oflt (by omega) (by omega)).mp z; omega), ss_123 s0, pu_bs]
    refine pu_b2 (fm_waysOf (a := a) h4 hM hMN (fun k hk => ⟨fun z => (nu_ofeq (by omega) (by omega)).mp z, fun z => by rw [z]⟩) (by omega) hm hs H) ?_
    rintro v τ ⟨rfl, A, HA⟩
    dsimp only at A HA ⊢
    have sτ := ag_sk A
    have hmτ := mk_ag A (by decide) hm
    have hsτ := mse_ag A s0 (by decide) hs
    have lt := wy_lt (V := V) (lw := lw) (u := u) (t := t) (M := M) (a := a) (ag := g) (k := 0) (h := h) hG
    by_cases c : 0 < wy_ V G lw u t M a g 10 0 h
    · rw [if_pos c, if_neg (fun z => by have := (nl_ge_0 lt).mp z; omega), si_603 sτ, pu_bs, hmτ.2.2.1.1]
      by_cases e : g = G
      · obtain ⟨b1, b2⟩ := bo_ (n := x) (j := 7) hx (by decide)
        rw [if_pos (by rw [e]), show eb_ G g = 7 by unfold eb_; rw [if_pos e], show (Int32.ofNat x ||| (128 : Int32)) = Int32.ofNat (x ||| 2 ^ 7) from b1, nl_ar_1]
        exact pu_mono (ih (g + 1) _ τ q (by omega) (by omega) b2 hmτ hsτ HA) (fun r hr => ⟨hr.1, ag_tr A hr.2.1, hr.2.2⟩)
      · obtain ⟨b1, b2⟩ := bo_ (n := x) (j := g) hx (by omega)
        rw [if_neg (fun z => e ((nu_ofeq (by omega) (by omega)).mp z)), show eb_ G g = g by unfold eb_; rw [if_neg e], bs_ g (by omega), b1, nl_ar_1]
        exact pu_mono (ih (g + 1) _ τ q (by omega) (by omega) b2 hmτ hsτ HA) (fun r hr => ⟨hr.1, ag_tr A hr.2.1, hr.2.2⟩)
    · rw [if_neg c, if_pos ((nl_ge_0 lt).mpr (by omega)), nl_ar_1]
      exact pu_mono (ih (g + 1) _ τ q (by omega) (by omega) hx hmτ hsτ HA) (fun r hr => ⟨hr.1, ag_tr A hr.2.1, hr.2.2⟩)
theorem ca_102 {τ : ah_S} {a : Nat} (q : ah_tg τ a = 102) : ah_ca τ 102 (some a) = some () := by
  show (if ah_tg τ a = 102 then some () else none) = _
  rw [if_pos q]
theorem qq_ways (hw : sw_ hd sz el nb) (hv : sp_hw h) (x1 x2 : Int32) : qq_ b ga ra ba nb kd hd sz el V G lw h (fun σ => F_X0_ways σ (some b) x1 x2) (fun σ => F_X6_ways σ (some (b + 123)) x1 x2) := by
  by_cases c1 : 0 ≤ x1 ∧ x1 ≤ 5
  rotate_left
  · refine ⟨-1, fun σ hq => ?_, fun σ hq => ?_⟩
    · simp only [F_X0_ways, fx_isShelf, ra_n c1, pu_b2s, if_true]; exact pu_ret ⟨rfl, ag_rf _ hq.1.1⟩
    · simp only [F_X6_ways, fm_isShelf, ra_n c1, pu_b2s, if_true]; exact pu_ret ⟨rfl, ag_rf _ hq.1.1, hq.2.2⟩
  by_cases c2 : 0 ≤ x2 ∧ x2 ≤ 3
  rotate_left
  · refine ⟨-1, fun σ hq => ?_, fun σ hq => ?_⟩
    · simp only [F_X0_ways, fx_isShelf, fx_isThing, ra_p c1, ra_n c2, nu_10, if_false, pu_b2s, if_true]; exact pu_ret ⟨rfl, ag_rf _ hq.1.1⟩
    · simp only [F_X6_ways, fm_isShelf, fm_isThing, ra_p c1, ra_n c2, nu_10, if_false, pu_b2s, if_true]; exact pu_ret ⟨rfl, ag_rf _ hq.1.1, hq.2.2⟩
  obtain ⟨d, rfl, h6⟩ := nu_natb (m := 5) c1.1 (by decide) c1.2
  obtain ⟨t, rfl, h4⟩ := nu_natb (m := 3) c2.1 (by decide) c2.2
  have h6 : d < 6 := by omega
  have h4 : t < 4 := by omega
  have hz := (hw d h6).1
  by_cases e2 : hd d = -2
  rotate_left
  · refine ⟨sp_rf hd d, fun σ hq => ?_, fun σ hq => ?_⟩
    · have s0 := hq.1.1
      simp only [F_X0_ways, fx_isShelf, fx_isThing, ra_p c1, ra_p c2, pu_b2s, nu_10, if_false, ss_0 s0, pu_bs, fx_lookAt s0 hq.2.1 hq.2.2.1 hw h6, if_neg (rf_n e2).2.2]; exact pu_ret ⟨rfl, ag_rf _ s0⟩
    · have s0 := hq.1.1
      simp only [F_X6_ways, fm_isShelf, fm_isThing, ra_p c1, ra_p c2, pu_b2s, nu_10, if_false, ss_123 s0, pu_bs, fm_rowFault s0 hq.2.1 h6, if_neg (rf_n e2).2.2]; exact pu_ret ⟨rfl, ag_rf _ s0, hq.2.2⟩
  refine ⟨Int32.ofNat (wy_ V G lw (fun i => (el d i).toInt32) t (min (sz d) 6) (min (sz d) 6) 0 10 0 h), fun σ hq => ?_, fun σ hq => ?_⟩
  · have s0 := hq.1.1
    obtain ⟨r1, r2⟩ := (hq.2.1.1 d h6).2.2 0 (by decide) e2
    simp only [F_X0_ways, fx_isShelf, fx_isThing, ra_p c1, ra_p c2, pu_b2s, nu_10, if_false, ss_0 s0, pu_bs, fx_lookAt s0 hq.2.1 hq.2.2.1 hw h6, rf_0 e2, if_pos (show (0 : Int32) ≤ 0 by decide), sg_41 s0, al_74 s0 h6, r1, ca_102 r2.2.2.1]
    refine pu_bind (fx_back h4 hz hq.1 r2 hq.2.2.2 hv) ?_
    rintro τ ⟨A, f32, -⟩
    have sτ := ag_sk A
    rw [si_32 sτ, pu_bs, f32, xy_cnt _ _ _ _ _ (by omega), Nat.zero_add]
    exact pu_ret ⟨rfl, A⟩
  · have s0 := hq.1.1
    have hG := hq.1.2.1
    simp only [F_X6_ways, fm_isShelf, fm_isThing, ra_p c1, ra_p c2, pu_b2s, nu_10, if_false, ss_123 s0, pu_bs, fm_rowFault s0 hq.2.1 h6, rf_0 e2, if_pos (show (0 : Int32) ≤ 0 by decide)]
    refine pu_bind (fm_laySeen s0 hq.2.1 hz h6) ?_
    rintro τ ⟨A1, C1⟩
    have sτ := ag_sk A1
    have H1 := mh_ag A1 s0 (by decide) (by decide) hq.2.2
    have key : pu_ok (ah_b2 (F_X6_waysOf τ (some (b + 123)) (Int32.ofNat (min (sz d) 6)) (Int32.ofNat t) (-1) (Int32.ofNat 0)) fun v12 σ13 => some (v12, σ13)) (fun r => r.1 = Int32.ofNat (wy_ V G lw (fun i => (el d i).toInt32) t (min (sz d) 6) (min (sz d) 6) 0 10 0 h) ∧ ag_ b LM_ σ r.2 ∧ mh_ r.2 b 130 h) := by
      refine pu_b2 (fm_waysOf (a := min (sz d) 6) h4 (Nat.min_le_right _ _) (Nat.min_le_left _ _) (fun k hk => ⟨fun z => absurd z (nu_ne1 (by omega)), fun z => absurd z (by omega)⟩) (by omega) (mk_ag A1 (by decide) hq.1) C1 H1) ?_
      rintro v υ ⟨rfl, A2, H2⟩
      exact pu_ret ⟨rfl, ag_tr (ag_mo (by decide) A1) (ag_mo (by decide) A2), H2⟩
    rw [si_644 sτ, pu_bs, C1.1]
    by_cases c : 6 ≤ sz d
    · rw [if_pos ((nl_le_6 (by omega)).mpr c), ss_123 sτ, pu_bs]
      rw [show Int32.ofNat (min (sz d) 6) = 6 by rw [Nat.min_eq_right c]; rfl] at key
      exact key
    · rw [if_neg (fun z => c ((nl_le_6 (by omega)).mp z)), pu_bs, ss_123 sτ, pu_bs]
      have em : Int32.ofNat (min (sz d) 6) = Int32.ofNat (sz d) := by rw [Nat.min_eq_left (by omega)]
      rw [em] at key
      exact key
theorem qq_who (hw : sw_ hd sz el nb) (hv : sp_hw h) (x1 x2 x3 : Int32) : qq_ b ga ra ba nb kd hd sz el V G lw h (fun σ => F_X0_who σ (some b) x1 x2 x3) (fun σ => F_X6_who σ (some (b + 123)) x1 x2 x3) := by
  by_cases c1 : 0 ≤ x1 ∧ x1 ≤ 5
  rotate_left
  · refine ⟨-1, fun σ hq => ?_, fun σ hq => ?_⟩
    · simp only [F_X0_who, fx_isShelf, ra_n c1, pu_b2s, if_true]; exact pu_ret ⟨rfl, ag_rf _ hq.1.1⟩
    · simp only [F_X6_who, fm_isShelf, ra_n c1, pu_b2s, if_true]; exact pu_ret ⟨rfl, ag_rf _ hq.1.1, hq.2.2⟩
  by_cases c2 : 0 ≤ x2 ∧ x2 ≤ 3
  rotate_left
  · refine ⟨-1, fun σ hq => ?_, fun σ hq => ?_⟩
    · simp only [F_X0_who, fx_isShelf, fx_isThing, ra_p c1, ra_n c2, nu_10, if_false, pu_b2s, if_true]; exact pu_ret ⟨rfl, ag_rf _ hq.1.1⟩
    · simp only [F_X6_who, fm_isShelf, fm_isThing, ra_p c1, ra_n c2, nu_10, if_false, pu_b2s, if_true]; exact pu_ret ⟨rfl, ag_rf _ hq.1.1, hq.2.2⟩
  by_cases c3 : 0 ≤ x3 ∧ x3 ≤ 5
  rotate_left
  · refine ⟨-1, fun σ hq => ?_, fun σ hq => ?_⟩
    · simp only [F_X0_who, fx_isShelf, fx_isThing, fx_w5, ra_p c1, ra_p c2, ra_n c3, nu_10, if_false, pu_b2s, if_true]; exact pu_ret ⟨rfl, ag_rf _ hq.1.1⟩
    · simp only [F_X6_who, fm_isShelf, fm_isThing, fm_in_, ra_p c1, ra_p c2, ra_n c3, nu_10, if_false, pu_b2s, if_true]; exact pu_ret ⟨rfl, ag_rf _ hq.1.1, hq.2.2⟩
  obtain ⟨d, rfl, h6⟩ := nu_natb (m := 5) c1.1 (by decide) c1.2
  obtain ⟨t, rfl, h4⟩ := nu_natb (m := 3) c2.1 (by decide) c2.2
  obtain ⟨k, rfl, hk⟩ := nu_natb (m := 5) c3.1 (by decide) c3.2
  have h6 : d < 6 := by omega
  have h4 : t < 4 := by omega
  have hz := (hw d h6).1
  by_cases e2 : hd d = -2
  rotate_left
  · refine ⟨sp_rf hd d, fun σ hq => ?_, fun σ hq => ?_⟩
    · have s0 := hq.1.1
      simp only [F_X0_who, fx_isShelf, fx_isThing, fx_w5, ra_p c1, ra_p c2, ra_p c3, pu_b2s, nu_10, if_false, ss_0 s0, pu_bs, fx_lookAt s0 hq.2.1 hq.2.2.1 hw h6, if_neg (rf_n e2).2.2]; exact pu_ret ⟨rfl, ag_rf _ s0⟩
    · have s0 := hq.1.1
      simp only [F_X6_who, fm_isShelf, fm_isThing, fm_in_, ra_p c1, ra_p c2, ra_p c3, pu_b2s, nu_10, if_false, ss_123 s0, pu_bs, fm_rowFault s0 hq.2.1 h6, if_neg (rf_n e2).2.2]; exact pu_ret ⟨rfl, ag_rf _ s0, hq.2.2⟩
  refine ⟨if k < sz d then Int32.ofNat (wb_ V G lw (fun i => (el d i).toInt32) t (min (sz d) 6) k h (G + 1) 0 0) else -1, fun σ hq => ?_, fun σ hq => ?_⟩
  · have s0 := hq.1.1
    have hG := hq.1.2.1.1
    obtain ⟨r1, r2⟩ := (hq.2.1.1 d h6).2.2 0 (by decide) e2
    have ea : ah_al_ σ (some (ra d)) = some (Int32.ofNat (sz d)) := by
      show (if ((decide (101 ≤ ah_tg σ (ra d)) && decide (ah_tg σ (ra d) ≤ 105)) || (decide (111 ≤ ah_tg σ (ra d)) && decide (ah_tg σ (ra d) ≤ 116))) = true then some (Int32.ofNat (ah_ln σ (ra d))) else none) = _
      rw [show ah_tg σ (ra d) = 102 from r2.2.2.1, r2.2.2.2.1]; rfl
    simp only [F_X0_who, fx_isShelf, fx_isThing, fx_w5, ra_p c1, ra_p c2, ra_p c3, pu_b2s, nu_10, if_false, ss_0 s0, pu_bs, fx_lookAt s0 hq.2.1 hq.2.2.1 hw h6, rf_0 e2, if_pos (show (0 : Int32) ≤ 0 by decide), sg_41 s0, al_74 s0 h6, r1, ca_102 r2.2.2.1, ea]
    by_cases c : k < sz d
    · rw [if_pos c, if_pos ((nu_oflt (by omega) (by omega)).mpr c)]
      refine pu_bind (fx_back h4 hz hq.1 r2 hq.2.2.2 hv) ?_
      rintro τ ⟨A, -, f63⟩
      have sτ := ag_sk A
      have hkm : k < min (sz d) 6 := by omega
      rw [sg_30 sτ, pu_bs, al_63 sτ (by omega), pu_bs, (f63 k hkm).1, who_eq hkm (Nat.min_le_right _ _) hG]
      exact pu_ret ⟨rfl, A⟩
    · rw [if_neg c, if_neg (fun z => c ((nu_oflt (by omega) (by omega)).mp z))]
      exact pu_ret ⟨rfl, ag_rf _ s0⟩
  · have s0 := hq.1.1
    have hG := hq.1.2.1
    simp only [F_X6_who, fm_isShelf, fm_isThing, fm_in_, ra_p c1, ra_p c2, ra_p c3, pu_b2s, nu_10, if_false, ss_123 s0, pu_bs, fm_rowFault s0 hq.2.1 h6, rf_0 e2, if_pos (show (0 : Int32) ≤ 0 by decide)]
    refine pu_bind (fm_laySeen s0 hq.2.1 hz h6) ?_
    rintro τ ⟨A1, C1⟩
    have sτ := ag_sk A1
    have H1 := mh_ag A1 s0 (by decide) (by decide) hq.2.2
    rw [si_644 sτ, pu_bs, C1.1]
    have key : k < sz d → pu_ok (F_X6_who_78 1000 τ (some (b + 123)) (Int32.ofNat t) (Int32.ofNat k) (Int32.ofNat (min (sz d) 6)) (Int32.ofNat 0) (Int32.ofNat 0)) (fun r => r.1 = Int32.ofNat (wb_ V G lw (fun i => (el d i).toInt32) t (min (sz d) 6) k h (G + 1) 0 0) ∧ ag_ b LM_ σ r.2 ∧ mh_ r.2 b 130 h) := fun c => pu_mono (lm_who h4 (Nat.min_le_right _ _) (Nat.min_le_left _ _) (show k < min (sz d) 6 by omega) (G + 1) 0 0 τ 1000 (by omega) (by omega) (by decide) (mk_ag A1 (by decide) hq.1) C1 H1) (fun r hr => ⟨hr.1, ag_tr (ag_mo (by decide) A1) (ag_mo (by decide) hr.2.1), hr.2.2⟩)
    by_cases c6 : 6 ≤ sz d
    · have c : k < sz d := by omega
      have key := key c
      rw [if_pos c, if_pos ((nl_le_6 (by omega)).mpr c6), if_pos ((nl_gt_6 (by omega)).mpr (by omega))]
      rw [show Int32.ofNat (min (sz d) 6) = 6 by rw [Nat.min_eq_right c6]; rfl] at key
      exact key
    · rw [if_neg (fun z => c6 ((nl_le_6 (by omega)).mp z)), pu_bs]
      by_cases c : k < sz d
      · have key := key c
        rw [if_pos c, if_pos ((nu_oflt (by omega) (by omega)).mpr c)]
        have em : Int32.ofNat (min (sz d) 6) = Int32.ofNat (sz d) := by rw [Nat.min_eq_left (by omega)]
        rw [em] at key
        exact key
      · rw [if_neg c, if_neg (fun z => c ((nu_oflt (by omega) (by omega)).mp z))]
        exact pu_ret ⟨rfl, ag_mo (by decide) A1, H1⟩
end
