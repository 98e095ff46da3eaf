/-! ===== tests of ranges, shelves, rows ===== -/
theorem ra_n {x a b : Int32} (h : ¬ (a ≤ x ∧ x ≤ b)) : ra_ x a b = 0 := ra_0.mpr h
theorem ra_p {x a b : Int32} (h : a ≤ x ∧ x ≤ b) : ra_ x a b = 1 := by
  unfold ra_
  rw [if_neg (fun q => absurd (Int32.lt_of_lt_of_le q h.1) Int32.lt_irrefl), if_neg (fun q => absurd (Int32.lt_of_lt_of_le q h.2) Int32.lt_irrefl)]
theorem nu_10 : ((1 : Int32) = 0) = False := by decide
theorem fx_isShelf (σ : ah_S) (x : Int32) : F_X0_isShelf σ x = some (ra_ x 0 5, σ) := by
  unfold F_X0_isShelf
  rw [show F_X0_within σ x.toInt64 0 5 = _ from fx_in σ x 0 5, pu_b2s, ra_z, pu_bs]
theorem fx_isThing (σ : ah_S) (x : Int32) : F_X0_isThing σ x = some (ra_ x 0 3, σ) := by
  unfold F_X0_isThing
  rw [show F_X0_within σ x.toInt64 0 3 = _ from fx_in σ x 0 3, pu_b2s, ra_z, pu_bs]
theorem fm_isShelf (σ : ah_S) (x : Int32) : F_X6_isShelf σ x = some (ra_ x 0 5, σ) := by
  unfold F_X6_isShelf
  rw [fm_in_, pu_b2s, ra_z, pu_bs]
theorem fm_isThing (σ : ah_S) (x : Int32) : F_X6_isThing σ x = some (ra_ x 0 3, σ) := by
  unfold F_X6_isThing
  rw [fm_in_, pu_b2s, ra_z, pu_bs]
theorem fx_w99 (σ : ah_S) (x : Int32) : F_X0_within σ x.toInt64 0 99 = some (ra_ x 0 99, σ) := fx_in σ x 0 99
theorem fx_w1 (σ : ah_S) (x : Int32) : F_X0_within σ x.toInt64 0 1 = some (ra_ x 0 1, σ) := fx_in σ x 0 1
theorem fx_w2 (σ : ah_S) (x : Int32) : F_X0_within σ x.toInt64 0 2 = some (ra_ x 0 2, σ) := fx_in σ x 0 2
theorem fx_w3 (σ : ah_S) (x : Int32) : F_X0_within σ x.toInt64 0 3 = some (ra_ x 0 3, σ) := fx_in σ x 0 3
theorem fx_w5 (σ : ah_S) (x : Int32) : F_X0_within σ x.toInt64 0 5 = some (ra_ x 0 5, σ) := fx_in σ x 0 5
theorem fx_w7 (σ : ah_S) (x : Int32) : F_X0_within σ x.toInt64 0 7 = some (ra_ x 0 7, σ) := fx_in σ x 0 7
theorem fx_w17 (σ : ah_S) (x : Int32) : F_X0_within σ x.toInt64 1 7 = some (ra_ x 1 7, σ) := fx_in σ x 1 7
theorem fx_w160 (σ : ah_S) (x : Int32) : F_X0_within σ x.toInt64 1 60 = some (ra_ x 1 60, σ) := fx_in σ x 1 60
theorem fx_w255 (σ : ah_S) (x : Int32) : F_X0_within σ x.toInt64 0 255 = some (ra_ x 0 255, σ) := fx_in σ x 0 255
theorem fx_w4 (σ : ah_S) (x : Int32) : F_X0_within σ x.toInt64 0 4 = some (ra_ x 0 4, σ) := fx_in σ x 0 4
theorem fx_w0 (σ : ah_S) (x y : Int32) : F_X0_within σ x.toInt64 0 y.toInt64 = some (ra_ x 0 y, σ) := fx_in σ x 0 y
theorem fx_isGuest {σ : ah_S} {b G : Nat} {ga : Nat → Nat} {V : sp_V} (x : Int32) (h0 : sk_ok σ b) (hp : xp_ σ b ga V G) : F_X0_isGuest σ (some b) x.toInt64 = some (ra_ x 0 (Int32.ofNat G - 1), σ) := by
  unfold F_X0_isGuest
  simp only [si_8 h0, pu_bs, hp.2.1, fx_w0, pu_b2s, ra_z]
/-! what stands behind the questions -/
def xk_ (σ : ah_S) (b : Nat) (ga : Nat → Nat) (V : sp_V) (G : Nat) (lw : sp_W) : Prop := sk_ok σ b ∧ xp_ σ b ga V G ∧ xw_ σ b lw ∧ sp_rg G V
def mk_ (σ : ah_S) (b : Nat) (V : sp_V) (G : Nat) (lw : sp_W) : Prop := sk_ok σ b ∧ G ≤ 7 ∧ mp_ σ b V G ∧ mw_ σ b lw
theorem xk_ag {b G : Nat} {L : List Nat} {σ τ : ah_S} {ga : Nat → Nat} {V : sp_V} {lw : sp_W} (A : ag_ b L σ τ) (hl : 0 ∉ L ∧ 3 ∉ L ∧ 99 ∉ L) (H : xk_ σ b ga V G lw) : xk_ τ b ga V G lw := ⟨ag_sk A, xp_ag A H.1 hl.1 hl.2.2 H.2.1, xw_ag A H.1 hl.2.1 H.2.2.1, H.2.2.2⟩
theorem mk_ag {b G : Nat} {L : List Nat} {σ τ : ah_S} {V : sp_V} {lw : sp_W} (A : ag_ b L σ τ) (hl : 20 ∉ L ∧ 23 ∉ L) (H : mk_ σ b V G lw) : mk_ τ b V G lw := ⟨ag_sk A, H.2.1, mp_ag A H.1 hl.1 H.2.2.1, mw_ag A H.1 hl.2 H.2.2.2⟩
/-- a shelf that holds a row of the sort s -/
def sp_ro (s : Nat) : Int32 := -2 - Int32.ofNat s
def rt_ : Nat → Nat
  | 0 => 102
  | 1 => 103
  | 2 => 101
  | 3 => 104
  | _ => 105
def can_ (s : Nat) (v : Int64) : Prop := if s = 3 then True else if s = 4 then v = 0 ∨ v = 1 else v.toInt32.toInt64 = v
abbrev sp_E : Type := Nat → Nat → Int64
def sw_ (hd : Nat → Int32) (sz : Nat → Nat) (el : sp_E) (nb : Nat) : Prop := ∀ d, d < 6 → sz d ≤ 60 ∧ (hd d = -1 ∨ (∃ j, j < nb ∧ hd d = Int32.ofNat j) ∨ (∃ s, s < 5 ∧ hd d = sp_ro s ∧ ∀ i, i < 60 → can_ s (el d i)))
def xr_ (σ : ah_S) (b a s n : Nat) (e : Nat → Int64) : Prop := b + 163 ≤ a ∧ a < ah_nx σ ∧ ah_tg σ a = rt_ s ∧ ah_ln σ a = n ∧ (s ≠ 3 → ∀ i, i < n → ah_ai σ a i = (e i).toInt32) ∧ (s = 3 → ∀ i, i < n → ah_al σ a i = e i)
def xs_ (σ : ah_S) (b : Nat) (ra ba : Nat → Nat) (nb : Nat) (hd : Nat → Int32) (sz : Nat → Nat) (el : sp_E) : Prop := (∀ d, d < 6 → (hd d = -1 → ah_ar σ (b + 74) d = none) ∧ (∀ j, j < nb → hd d = Int32.ofNat j → ah_ar σ (b + 74) d = some (ba j)) ∧ (∀ s, s < 5 → hd d = sp_ro s → ah_ar σ (b + 74) d = some (ra d) ∧ xr_ σ b (ra d) s (sz d) (el d))) ∧ (∀ d e s u, d < 6 → e < 6 → d ≠ e → s < 5 → u < 5 → hd d = sp_ro s → hd e = sp_ro u → ra d ≠ ra e)
def xb_ (σ : ah_S) (b : Nat) (ba : Nat → Nat) (nb : Nat) (kd : Nat → Nat) : Prop := nb ≤ 50 ∧ ah_fi σ 38 b = Int32.ofNat nb ∧ ∀ j, j < nb → ah_ar σ (b + 72) j = some (ba j) ∧ b + 163 ≤ ba j ∧ ba j < ah_nx σ ∧ ah_tg σ (ba j) = 15 + kd j ∧ kd j ≤ 7 ∧ ah_fi σ 1400 (ba j) = Int32.ofNat j ∧ ah_fr σ 1401 (ba j) = some b
def ms_ (σ : ah_S) (b : Nat) (hd : Nat → Int32) (sz : Nat → Nat) (el : sp_E) : Prop := ∀ d, d < 6 → ah_ai σ (b + 159) d = hd d ∧ ah_ai σ (b + 160) d = Int32.ofNat (sz d) ∧ ∀ i, i < 60 → ah_al σ (b + 161) (60 * d + i) = el d i
def mb_ (σ : ah_S) (b nb : Nat) (kd : Nat → Nat) : Prop := ah_fi σ 652 (b + 123) = Int32.ofNat nb ∧ ∀ j, j < nb → ah_ai σ (b + 157) j = Int32.ofNat (kd j)
theorem rt_d {s : Nat} : lb_d (rt_ s) = 10 := by
  unfold rt_
  split <;> rfl
theorem xr_ag {b a s n : Nat} {L : List Nat} {σ τ : ah_S} {e : Nat → Int64} (A : ag_ b L σ τ) (hl : 10 ∉ L) (H : xr_ σ b a s n e) : xr_ τ b a s n e := by
  obtain ⟨h1, h2, h3, h4, h5, h6⟩ := H
  have l : lb_a b σ a ∉ L := by rw [lb_dy h1, h3, rt_d]; exact hl
  refine ⟨h1, Nat.lt_of_lt_of_le h2 A.2.1, by rw [(A.2.2.2.2.2.1 a h2).1]; exact h3, by rw [(A.2.2.2.2.2.1 a h2).2]; exact h4, fun q i hi => ?_, fun q i hi => ?_⟩
  · rw [(A.2.2.2.2.2.2.2.2 a i h2 l).1]; exact h5 q i hi
  · rw [(A.2.2.2.2.2.2.2.2 a i h2 l).2.1]; exact h6 q i hi
theorem xs_ag {b nb : Nat} {L : List Nat} {σ τ : ah_S} {ra ba : Nat → Nat} {hd : Nat → Int32} {sz : Nat → Nat} {el : sp_E} (A : ag_ b L σ τ) (h0 : sk_ok σ b) (hl : 10 ∉ L) (H : xs_ σ b ra ba nb hd sz el) : xs_ τ b ra ba nb hd sz el := by
  refine ⟨fun d hd6 => ?_, H.2⟩
  obtain ⟨h1, h2, h3⟩ := H.1 d hd6
  have e : ah_ar τ (b + 74) d = ah_ar σ (b + 74) d := ag_ar A h0 (by decide) (by exact hl) d
  rw [e]
  exact ⟨h1, h2, fun s hs q => ⟨(h3 s hs q).1, xr_ag A hl (h3 s hs q).2⟩⟩
theorem xb_ag {b nb : Nat} {L : List Nat} {σ τ : ah_S} {ba kd : Nat → Nat} (A : ag_ b L σ τ) (h0 : sk_ok σ b) (hl : 8 ∉ L) (h9 : 99 ∉ L) (H : xb_ σ b ba nb kd) : xb_ τ b ba nb kd := by
  obtain ⟨h1, h2, h3⟩ := H
  refine ⟨h1, ?_, fun j hj => ?_⟩
  · rw [← h2]; exact ag_fi (k := 0) A h0 (by decide) (by decide) (by exact hl)
  · obtain ⟨a1, a2, a3, a4, a5, a6, a7⟩ := h3 j hj
    refine ⟨?_, a2, Nat.lt_of_lt_of_le a3 A.2.1, by rw [(A.2.2.2.2.2.1 _ a3).1]; exact a4, a5, ?_, ?_⟩
    · rw [ag_ar A h0 (by decide) (by exact hl)]; exact a1
    · rw [A.2.2.2.2.2.2.1 1400 _ a3 (by
        rw [lb_iy (by decide), lb_dy a2, a4]
        unfold lb_d
        rw [if_neg (by omega), if_neg (by omega), if_pos (by omega)]; exact hl)]; exact a6
    · rw [A.2.2.2.2.2.2.2.1 1401 _ a3 (by exact h9)]; exact a7
theorem ms_ag {b : Nat} {L : List Nat} {σ τ : ah_S} {hd : Nat → Int32} {sz : Nat → Nat} {el : sp_E} (A : ag_ b L σ τ) (h0 : sk_ok σ b) (hl : 30 ∉ L) (H : ms_ σ b hd sz el) : ms_ τ b hd sz el := fun d hd6 => by
  obtain ⟨h1, h2, h3⟩ := H d hd6
  refine ⟨?_, ?_, fun i hi => ?_⟩
  · rw [ag_ai A h0 (by decide) (by exact hl)]; exact h1
  · rw [ag_ai A h0 (by decide) (by exact hl)]; exact h2
  · rw [ag_al A h0 (by decide) (by exact hl)]; exact h3 i hi
theorem mb_ag {b nb : Nat} {L : List Nat} {σ τ : ah_S} {kd : Nat → Nat} (A : ag_ b L σ τ) (h0 : sk_ok σ b) (hl : 28 ∉ L) (H : mb_ σ b nb kd) : mb_ τ b nb kd := ⟨by rw [ag_fi A h0 (by decide) (by decide) (by exact hl)]; exact H.1, fun j hj => by rw [ag_ai A h0 (by decide) (by exact hl)]; exact H.2 j hj⟩
/-! kinds of what a shelf holds -/
theorem io_eq {σ : ah_S} {t a u : Nat} (h : ah_tg σ a = u) : ah_io σ t (some a) = if u = t then some 1 else if ((decide (15 ≤ u) && decide (u ≤ 22)) || (decide (101 ≤ u) && decide (u ≤ 105))) = true then some 0 else none := by rw [← h]; rfl
theorem fx_sortR {σ : ah_S} {a s : Nat} (hs : s < 5) (ht : ah_tg σ a = rt_ s) : F_X0_sortOf σ (some a) = some (Int32.ofNat s, σ) := by
  unfold F_X0_sortOf
  match s, hs with
  | 0, _ => simp only [io_eq (u := 102) ht]; rfl
  | 1, _ => simp only [io_eq (u := 103) ht]; rfl
  | 2, _ => simp only [io_eq (u := 101) ht]; rfl
  | 3, _ => simp only [io_eq (u := 104) ht]; rfl
  | 4, _ => simp only [io_eq (u := 105) ht]; rfl
theorem fx_sortB {σ : ah_S} {a k : Nat} (hk : k ≤ 7) (ht : ah_tg σ a = 15 + k) : F_X0_sortOf σ (some a) = some (-1, σ) := by
  unfold F_X0_sortOf
  simp only [io_eq ht]
  match k, hk with
  | 0, _ => rfl
  | 1, _ => rfl
  | 2, _ => rfl
  | 3, _ => rfl
  | 4, _ => rfl
  | 5, _ => rfl
  | 6, _ => rfl
  | 7, _ => rfl
theorem ro_ne {s : Nat} (hs : s < 5) : sp_ro s ≠ -1 ∧ (sp_ro s = -2 ↔ s = 0) ∧ (∀ j, j < 2147483648 → sp_ro s ≠ Int32.ofNat j) ∧ sp_ro s < 0 := by
  have e : ∀ s, s < 5 → (sp_ro s).toInt = -2 - (s : Int) := by decide
  have es := e s hs
  refine ⟨fun q => ?_, ⟨fun q => ?_, fun q => by rw [q]; rfl⟩, fun j hj q => ?_, ?_⟩
  · rw [q] at es
    have : (-1 : Int32).toInt = -1 := rfl
    omega
  · rw [q] at es
    have : (-2 : Int32).toInt = -2 := rfl
    omega
  · rw [q, nu_of hj] at es
    omega
  · rw [nu_lt, es]
    have : (0 : Int32).toInt = 0 := rfl
    omega
theorem ro_inj {s u : Nat} (hs : s < 5) (hu : u < 5) (h : sp_ro s = sp_ro u) : s = u := by
  have e : ∀ s, s < 5 → (sp_ro s).toInt = -2 - (s : Int) := by decide
  have e1 := e s hs
  have e2 := e u hu
  rw [h] at e1
  omega
/-- the answer if there is no row of bytes; 0 -/
def sp_rf (hd : Nat → Int32) (d : Nat) : Int32 := if hd d = -1 then -11 else if hd d = -2 then 0 else -12
theorem fx_lookAt {σ : ah_S} {b nb d : Nat} {ra ba kd : Nat → Nat} {hd : Nat → Int32} {sz : Nat → Nat} {el : sp_E} (h0 : sk_ok σ b) (hs : xs_ σ b ra ba nb hd sz el) (hb : xb_ σ b ba nb kd) (hw : sw_ hd sz el nb) (h6 : d < 6) : F_X0_lookAt σ (some b) (Int32.ofNat d) = some (sp_rf hd d, σ) := by
  obtain ⟨h1, h2, h3⟩ := hs.1 d h6
  obtain ⟨h5, h4⟩ := hw d h6
  unfold F_X0_lookAt sp_rf
  rw [fx_isShelf, pu_b2s, ra_p ⟨by rw [nl_le_0 (by omega)]; omega, by rw [nl_ge_5 (by omega)]; omega⟩]
  simp only [nu_10, if_false, sg_41 h0, pu_bs, al_74 h0 h6]
  have hnb := hb.1
  rcases h4 with e | ⟨j, hj, e⟩ | ⟨s, hs5, e, -⟩
  · rw [h1 e, if_pos rfl, if_pos e]
  · rw [h2 j hj e, if_neg (by simp), e, if_neg (nu_ne1 (by omega)), if_neg (by
      intro q
      have := nu_of (n := j) (by omega)
      rw [q] at this
      have k : (-2 : Int32).toInt = -2 := rfl
      omega)]
    obtain ⟨-, -, -, b4, b5, -⟩ := hb.2.2 j hj
    rw [fx_sortB b5 b4, pu_b2s]; rfl
  · obtain ⟨r1, r2⟩ := h3 s hs5 e
    obtain ⟨n1, n2, -⟩ := ro_ne hs5
    rw [r1, if_neg (by simp), e, if_neg n1, fx_sortR hs5 r2.2.2.1, pu_b2s]
    by_cases q : s = 0
    · rw [if_pos (n2.mpr q), q]; rfl
    · rw [if_neg (fun z => q (n2.mp z)), if_neg]
      intro z
      exact q ((nu_ofeq (by omega) (by decide : (0 : Nat) < 2147483648)).mp z)
theorem fm_rowFault {σ : ah_S} {b d : Nat} {hd : Nat → Int32} {sz : Nat → Nat} {el : sp_E} (h0 : sk_ok σ b) (hs : ms_ σ b hd sz el) (h6 : d < 6) : F_X6_rowFault σ (some (b + 123)) (Int32.ofNat d) = some (sp_rf hd d, σ) := by
  obtain ⟨h1, -⟩ := hs d h6
  unfold F_X6_rowFault sp_rf
  simp only [sg_656 h0, pu_bs, al_159 h0 h6, h1]
  split
  · rfl
  · split <;> rfl
