/-! ===== rows: arrays, new cells, casts ===== -/
theorem ah_tyOf {D : ah_D} {s : State} (hK : ah_K D s) {t : Nat} (ht : t ∈ ah_tags) : ArrOfT s (D.2.2 t) (ah_aty t) ∧ va_RA s (D.2.2 t) (ah_aty t) := by
  have h : (D.2.2 t, ah_aty t) ∈ ah_tys D := List.mem_map.mpr ⟨t, ht, rfl⟩
  obtain ⟨i, hi⟩ := List.getElem?_of_mem h
  exact hK.1.2 i _ hi
theorem ah_av_i {σ : ah_S} {t a : Nat} (h : t ≠ 104) (h2 : ¬ 111 ≤ t) : ah_av σ t a = .inl (ah_ai σ a) := by unfold ah_av; rw [if_neg h, if_neg h2]
theorem ah_av_l {σ : ah_S} {a : Nat} : ah_av σ 104 a = .inr (.inl (ah_al σ a)) := by unfold ah_av; rw [if_pos rfl]
theorem ah_av_q {σ : ah_S} {t a : Nat} (h : t ≠ 104) (h2 : 111 ≤ t) : ah_av σ t a = .inr (.inr (.inr (.inr (ah_ar σ a)))) := by unfold ah_av; rw [if_neg h, if_pos h2]
theorem ah_HH.sA {D : ah_D} {σ : ah_S} {H H1 : Heap} {a i t : Nat} {v : Int32} (h : ah_HH D σ H) (ht : ah_tg σ a = t) (h101 : 101 ≤ t) (h104 : t ≠ 104) (h111 : ¬ 111 ≤ t) (hfit : t ≠ 101 → fits (ah_aty t) (.int v) = true) (hz : H1.size = H.size) (hq : ∀ q : Nat, q ≠ a → H1[q]? = H[q]?)
    (he : H1[a]? = some ((vp_cell (D.2.2 t) (ah_ln σ a, .inl (ah_ai σ a))).setSlot i (.int v))) : ah_HH D (ah_sA σ a i v) H1 := by
  have hne : ∀ b, b ≠ a → ah_ai (ah_sA σ a i v) b = ah_ai σ b := by
    intro b e
    funext j
    show ah_u2 (ah_ai σ) a i v b j = _
    simp [ah_u2, e]
  refine h.upd rfl rfl rfl (fun b e ci k => rfl) (fun b e t => ?_) (fun b e j => by rw [hne b e]) hz hq ⟨fun ci' r g1 g2 => ?_, fun t' g1 g2 => ?_, fun t' g1 g2 j => ?_, fun g => by
    exfalso
    have g' : ah_tg σ a = 2 ∨ ah_tg σ a = 4 := g
    omega⟩
  · unfold ah_av
    rw [hne b e]
    rfl
  · exfalso
    have h1 : ah_tg σ a = ci' + 1 := g1
    have h2 : ci' < ah_cl.length := (List.getElem?_eq_some_iff.mp g2).1
    have h3 : ah_cl.length = 22 := rfl
    omega
  · have h1 : ah_tg σ a = t' := g2
    have e : t' = t := h1.symm.trans ht
    subst e
    rw [he, ah_av_i h104 h111, vp_cell_i]
    show _ = some (vp_cell (D.2.2 t') (ah_ln σ a, _))
    rw [vp_cell_i, arrV_store]
    congr 2
    funext q
    show _ = Value.int (ah_u2 (ah_ai σ) a i v a q)
    by_cases hq : q = i
    · subst hq; simp [updV, ah_u2]
    · simp [updV, ah_u2, hq]
  · have h1 : ah_tg σ a = t' := g2
    have e : t' = t := h1.symm.trans ht
    subst e
    show fits (ah_aty t') (.int (ah_u2 (ah_ai σ) a i v a j)) = true
    by_cases hq : j = i
    · subst hq; simp only [ah_u2, if_true]; exact hfit (by omega)
    · simp only [ah_u2, if_true, if_neg hq]; exact (h.2.2 a).2.2.1 t' g1 ht j
theorem ah_HH.sL {D : ah_D} {σ : ah_S} {H H1 : Heap} {a i : Nat} {v : Int64} (h : ah_HH D σ H) (ht : ah_tg σ a = 104) (hz : H1.size = H.size) (hq : ∀ q : Nat, q ≠ a → H1[q]? = H[q]?)
    (he : H1[a]? = some ((vp_cell (D.2.2 104) (ah_ln σ a, .inr (.inl (ah_al σ a)))).setSlot i (.long v))) : ah_HH D (ah_sL σ a i v) H1 := by
  have hne : ∀ b, b ≠ a → ah_al (ah_sL σ a i v) b = ah_al σ b := by
    intro b e
    funext j
    show ah_u2 (ah_al σ) a i v b j = _
    simp [ah_u2, e]
  refine h.upd rfl rfl rfl (fun b e ci k => rfl) (fun b e t => ?_) (fun b e j => rfl) hz hq ⟨fun ci' r g1 g2 => ?_, fun t' g1 g2 => ?_, fun t' g1 g2 j => ?_, fun g => by
    exfalso
    have g' : ah_tg σ a = 2 ∨ ah_tg σ a = 4 := g
    omega⟩
  · unfold ah_av
    rw [hne b e]
    rfl
  · exfalso
    have h1 : ah_tg σ a = ci' + 1 := g1
    have h2 : ci' < ah_cl.length := (List.getElem?_eq_some_iff.mp g2).1
    have h3 : ah_cl.length = 22 := rfl
    omega
  · have h1 : ah_tg σ a = t' := g2
    have e : t' = 104 := h1.symm.trans ht
    subst e
    rw [he, ah_av_l, vp_cell_l]
    show _ = some (vp_cell (D.2.2 104) (ah_ln σ a, _))
    rw [vp_cell_l, arrV_store]
    congr 2
    funext q
    show _ = Value.long (ah_u2 (ah_al σ) a i v a q)
    by_cases hq : q = i
    · subst hq; simp [updV, ah_u2]
    · simp [updV, ah_u2, hq]
  · exfalso
    have h1 : ah_tg σ a = t' := g2
    omega
theorem ah_HH.sQ {D : ah_D} {σ : ah_S} {H H1 : Heap} {a i t : Nat} {v : Option Nat} (h : ah_HH D σ H) (ht : ah_tg σ a = t) (h111 : 111 ≤ t) (hz : H1.size = H.size) (hq : ∀ q : Nat, q ≠ a → H1[q]? = H[q]?)
    (he : H1[a]? = some ((vp_cell (D.2.2 t) (ah_ln σ a, .inr (.inr (.inr (.inr (ah_ar σ a)))))).setSlot i (va_rf v))) : ah_HH D (ah_sQ σ a i v) H1 := by
  have hne : ∀ b, b ≠ a → ah_ar (ah_sQ σ a i v) b = ah_ar σ b := by
    intro b e
    funext j
    show ah_u2 (ah_ar σ) a i v b j = _
    simp [ah_u2, e]
  refine h.upd rfl rfl rfl (fun b e ci k => rfl) (fun b e t => ?_) (fun b e j => rfl) hz hq ⟨fun ci' r g1 g2 => ?_, fun t' g1 g2 => ?_, fun t' g1 g2 j => ?_, fun g => by
    exfalso
    have g' : ah_tg σ a = 2 ∨ ah_tg σ a = 4 := g
    omega⟩
  · unfold ah_av
    rw [hne b e]
    rfl
  · exfalso
    have h1 : ah_tg σ a = ci' + 1 := g1
    have h2 : ci' < ah_cl.length := (List.getElem?_eq_some_iff.mp g2).1
    have h3 : ah_cl.length = 22 := rfl
    omega
  · have h1 : ah_tg σ a = t' := g2
    have e : t' = t := h1.symm.trans ht
    subst e
    rw [he, ah_av_q (by omega) h111, vp_cell_q]
    show _ = some (vp_cell (D.2.2 t') (ah_ln σ a, _))
    rw [vp_cell_q, arrV_store]
    congr 2
    funext q
    show _ = va_rf (ah_u2 (ah_ar σ) a i v a q)
    by_cases hq : q = i
    · subst hq; simp [updV, ah_u2]
    · simp [updV, ah_u2, hq]
  · exfalso
    have h1 : ah_tg σ a = t' := g2
    omega
/-- a new cell -/
theorem ah_HH.new {D : ah_D} {σ : ah_S} {H H1 : Heap} {t n : Nat} (h : ah_HH D σ H) (hz : H1.size = H.size + 1) (hq : ∀ q : Nat, q < H.size → H1[q]? = H[q]?) (ht : t ≠ 0)
    (ho : ∀ (ci : Nat) (r : vw_C), t = ci + 1 → ah_cl[ci]? = some r → t_OB H.size (D.1 ci) r.2.2 (D.2.1 ci) H1 (fun k => if ah_isR (ah_fid ci k) = true then .null else .int 0))
    (ha : ∀ (x : (Nat → Int32) ⊕ (Nat → Int64) ⊕ (Nat → UInt32) ⊕ (Nat → UInt64) ⊕ (Nat → Option Nat)), 101 ≤ t → x = (if t = 104 then .inr (.inl (fun _ => 0)) else if 111 ≤ t then .inr (.inr (.inr (.inr (fun _ => none)))) else .inl (fun _ => 0)) → H1[H.size]? = some (vp_cell (D.2.2 t) (n, x))) (hu : t = 2 ∨ t = 4 → ∃ cell : Cell, H1[H.size]? = some cell ∧ cell.slots.size = 6) : ah_HH D (ah_new σ t n) H1 := by
  have hs : H.size = ah_nx σ := h.1
  have tgn : ∀ b, b ≠ ah_nx σ → ah_tg (ah_new σ t n) b = ah_tg σ b := fun b e => by show va_up (ah_tg σ) _ t b = _; simp [va_up, e]
  have tgs : ah_tg (ah_new σ t n) (ah_nx σ) = t := by show va_up (ah_tg σ) _ t _ = _; simp [va_up]
  refine ⟨by rw [hz, hs]; rfl, fun b hb => ?_, fun b => ?_⟩
  · by_cases e : b = ah_nx σ
    · subst e; exact Nat.lt_succ_self _
    · rw [tgn b e] at hb
      exact Nat.lt_succ_of_lt (h.2.1 b hb)
  · by_cases e : b = ah_nx σ
    · subst e
      refine ⟨fun ci r g1 g2 => ?_, fun t' g1 g2 => ?_, fun t' g1 g2 j => ?_, fun g => by rw [tgs] at g; rw [← hs]; exact hu g⟩
      · rw [tgs] at g1
        have := ho ci r g1 g2
        rw [hs] at this
        refine this.to (fun k _ => ?_)
        unfold ah_fv
        show _ = (if _ then va_rf (if ah_nx σ = ah_nx σ then none else _) else Value.int (if ah_nx σ = ah_nx σ then 0 else _))
        simp [va_rf]
      · rw [tgs] at g2
        subst g2
        have := ha _ g1 rfl
        rw [hs] at this
        rw [this]
        have e1 : ah_ln (ah_new σ t n) (ah_nx σ) = n := by show va_up (ah_ln σ) _ n _ = _; simp [va_up]
        have e2 : ah_av (ah_new σ t n) t (ah_nx σ) = (if t = 104 then .inr (.inl (fun _ => 0)) else if 111 ≤ t then .inr (.inr (.inr (.inr (fun _ => none)))) else .inl (fun _ => 0)) := by
          unfold ah_av
          have a1 : ah_al (ah_new σ t n) (ah_nx σ) = fun _ => 0 := by show va_up (ah_al σ) _ _ _ = _; simp [va_up]
          have a2 : ah_ar (ah_new σ t n) (ah_nx σ) = fun _ => none := by show va_up (ah_ar σ) _ _ _ = _; simp [va_up]
          have a3 : ah_ai (ah_new σ t n) (ah_nx σ) = fun _ => 0 := by show va_up (ah_ai σ) _ _ _ = _; simp [va_up]
          rw [a1, a2, a3]
        rw [e1, e2]
      · have a3 : ah_ai (ah_new σ t n) (ah_nx σ) = fun _ => 0 := by show va_up (ah_ai σ) _ _ _ = _; simp [va_up]
        rw [a3]
        obtain ⟨q1, q2, q3⟩ := g1
        rcases (show t' = 102 ∨ t' = 103 ∨ t' = 105 by omega) with rfl | rfl | rfl <;> rfl
    · have hb0 := h.2.2 b
      have key : ah_tg σ b ≠ 0 → H1[b]? = H[b]? := fun q => hq b (h.lt q)
      have f1 : ∀ ci k, ah_fv (ah_new σ t n) ci k b = ah_fv σ ci k b := by
        intro ci k
        unfold ah_fv
        show (if _ then va_rf (if b = ah_nx σ then none else _) else Value.int (if b = ah_nx σ then 0 else _)) = _
        simp [e]
      have f2 : ah_ai (ah_new σ t n) b = ah_ai σ b := by show va_up (ah_ai σ) _ _ b = _; simp [va_up, e]
      have f3 : ∀ t', ah_av (ah_new σ t n) t' b = ah_av σ t' b := by
        intro t'
        unfold ah_av
        have a1 : ah_al (ah_new σ t n) b = ah_al σ b := by show va_up (ah_al σ) _ _ b = _; simp [va_up, e]
        have a2 : ah_ar (ah_new σ t n) b = ah_ar σ b := by show va_up (ah_ar σ) _ _ b = _; simp [va_up, e]
        rw [a1, a2, f2]
      have f4 : ah_ln (ah_new σ t n) b = ah_ln σ b := by show va_up (ah_ln σ) _ _ b = _; simp [va_up, e]
      refine ⟨fun ci r g1 g2 => ?_, fun t' g1 g2 => ?_, fun t' g1 g2 j => ?_, fun g => by rw [tgn b e] at g; rw [key (by omega)]; exact hb0.2.2.2 g⟩
      · rw [tgn b e] at g1
        exact ((hb0.1 ci r g1 g2).kept (key (by omega))).to (fun k _ => (f1 ci k).symm)
      · rw [tgn b e] at g2
        rw [f3, f4, key (by omega)]
        exact hb0.2.1 t' g1 g2
      · rw [tgn b e] at g2
        rw [f2]
        exact hb0.2.2.1 t' g1 g2 j
theorem ah_Le.new {σ0 σ : ah_S} (le : ah_Le σ0 σ) (t n : Nat) : ah_Le σ0 (ah_new σ t n) := by
  refine ⟨Nat.le_trans le.1 (Nat.le_succ _), Nat.le_trans (Nat.sub_le _ _) le.2.1, Nat.le_trans (Nat.sub_le _ _) le.2.2.1, fun a ha => ?_⟩
  by_cases e : a = ah_nx σ
  · exact Or.inr (by rw [e]; exact le.1)
  · have : ah_tg (ah_new σ t n) a = ah_tg σ a := by show va_up (ah_tg σ) _ t a = _; simp [va_up, e]
    rw [this] at ha
    exact le.2.2.2 a ha
theorem va_S.grow {A : Nat → Prop} {H0 H H1 : Heap} {locs : List Loc} (h : va_S A H0 H locs) (z : H1.size = H.size + 1) (hq : ∀ q : Nat, q < H.size → H1[q]? = H[q]?) : va_S A H0 H1 locs := ⟨Nat.le_trans h.1 (by omega), fun x h1 h2 => (hq x (Nat.lt_of_lt_of_le h1 h.1)).trans (h.2.1 x h1 h2), h.2.2⟩
theorem ah_bytes (t : FieldType) : componentBytes t ≤ 8 := by cases t <;> first | decide | (show (_ : Nat) ≤ 8; simp [componentBytes])
/-- a class's name by the tag -/
def ah_nm (t : Nat) : String := match t with
  | 101 => "[I"
  | 102 => "[B"
  | 103 => "[S"
  | 104 => "[J"
  | 105 => "[Z"
  | _ => (ah_cl.getD (t - 1) ("", TX2, 0)).1
theorem ah_cell_vm (cA : ClassId) (x : vp_A) : (vp_cell cA x).vm = .none ∧ (vp_cell cA x).cls = cA := by
  obtain ⟨n, f | f | f | f | f⟩ := x <;> exact ⟨rfl, rfl⟩
theorem ah_recv {D : ah_D} {σ : ah_S} {H : Heap} {s : State} {a t : Nat} (hH : ah_HH D σ H) (hK : ah_K D s) (ht : ah_tg σ a = t) (hr : (1 ≤ t ∧ t ≤ 22) ∨ (101 ≤ t ∧ t ≤ 105)) : ∃ cell : Cell, H[a]? = some cell ∧ cell.vm.isStatics = false ∧ s.vm.findClass (ah_nm t) = some cell.cls := by
  rcases hr with ⟨h1, h2⟩ | ⟨h1, h2⟩
  · obtain ⟨r, hr⟩ : ∃ r, ah_cl[t - 1]? = some r := by
      have : t - 1 < ah_cl.length := by have h3 : ah_cl.length = 22 := rfl; omega
      exact ⟨_, List.getElem?_eq_getElem this⟩
    obtain ⟨cell, q1, q2, q3, -⟩ := (hH.2.2 a).1 (t - 1) r (by omega) hr
    refine ⟨cell, q1, by rw [q3]; rfl, ?_⟩
    have h4 := (hK.1.1 (t - 1) r hr).2.1
    have e : ah_nm t = r.1 := by
      unfold ah_nm
      split
      · omega
      · omega
      · omega
      · omega
      · omega
      · rw [List.getD_eq_getElem?_getD, hr]; rfl
    rw [e, q2]
    exact h4
  · have h3 := (hH.2.2 a).2.1 t h1 ht
    refine ⟨_, h3, by rw [(ah_cell_vm _ _).1]; rfl, ?_⟩
    rw [(ah_cell_vm _ _).2]
    rcases (show t = 101 ∨ t = 102 ∨ t = 103 ∨ t = 104 ∨ t = 105 by omega) with rfl | rfl | rfl | rfl | rfl
    · exact (ah_tyOf hK (t := 101) (by decide)).2
    · exact (ah_tyOf hK (t := 102) (by decide)).2
    · exact (ah_tyOf hK (t := 103) (by decide)).2
    · exact (ah_tyOf hK (t := 104) (by decide)).2
    · exact (ah_tyOf hK (t := 105) (by decide)).2
section
variable {κ : ah_C} {μ : ah_M} {cc : ByteArray} {σ : ah_S} {pc pc' : Nat} {L L' : List (Option Value)} {st : List Value}
theorem ah_nf_byte (v : Int32) : fits (ah_aty 102) (.int (vp_nar .byte v)) = true := by rw [vp_nar_byte]; exact pk_fb v
theorem ah_nf_short (v : Int32) : fits (ah_aty 103) (.int (vp_nar .short v)) = true := by rw [vp_nar_short]; exact pk_fs v
theorem ah_nf_boolean (v : Int32) : fits (ah_aty 105) (.int (vp_nar .boolean v)) = true := by
  show ((v &&& 1) == 0 || (v &&& 1) == 1) = true
  rcases pk_andE v (m := 1) 1 rfl with ⟨j, hj, e⟩
  rw [e]
  rcases (show j = 0 ∨ j = 1 by omega) with rfl | rfl <;> decide
theorem ro_iaload {r : Option Nat} {i : Int32} {v : Int32} (hd : decode cc pc = .ok (.iaload, 1)) (hp : pc + 1 = pc') (h : ah_lA σ 101 r i = some v) (k : ah_G κ μ cc σ pc' L (.int v :: st)) : ah_G κ μ cc σ pc L (.int i :: va_rf r :: st) := by
  subst hp
  obtain ⟨a, rfl, h⟩ := ah_bs h
  obtain ⟨ht, rfl⟩ := ah_ifs h
  rw [Bool.and_eq_true] at ht
  obtain ⟨ht, hi⟩ := ht
  have ht : ah_tg σ a = 101 := by simpa using ht
  intro ok le H locs ls hH hS hl
  obtain ⟨p, l, e, R, s, m, args, below, meth, c, D, σ0, res⟩ := κ
  obtain ⟨own, nm, nL, ret, hh, fr, lo⟩ := μ
  obtain ⟨hx, hb, hml, hown, hts, hK, hr, hlk, hR, hsz, hnm, hex⟩ := id ok
  have hc := (hH.2.2 a).2.1 101 (by decide) ht
  rw [ah_av_i (by decide) (by decide)] at hc
  have hA := (ah_tyOf hK (t := 101) (by decide)).1
  have hlt := ah_inb_lt hi
  exact W.iald (v := .int (ah_ai σ a i.toNatClampNeg)) hx hb hc (hA _ (fun j => .int (ah_ai σ a j))) (fun q => by cases q) (by show ¬ (i < 0 ∨ (arrV _ _ _).slots.size ≤ _); rw [arrV_size]; exact ah_inb_in hi) (by show (arrV _ _ _).slots[_]? = _; rw [arrV_read _ _ hlt]) rfl rfl hd (k ok le H locs ls hH hS hl)
theorem ro_iastore {r : Option Nat} {i : Int32} {v : Int32} {τ : ah_S} (hd : decode cc pc = .ok (.iastore, 1)) (hp : pc + 1 = pc') (h : ah_wA σ 101 r i (v) = some τ) (k : ah_G κ μ cc τ pc' L st) : ah_G κ μ cc σ pc L (.int v :: .int i :: va_rf r :: st) := by
  subst hp
  obtain ⟨a, rfl, h⟩ := ah_bs h
  obtain ⟨ht, rfl⟩ := ah_ifs h
  rw [Bool.and_eq_true] at ht
  obtain ⟨ht, hi⟩ := ht
  have ht : ah_tg σ a = 101 := by simpa using ht
  intro ok le H locs ls hH hS hl
  obtain ⟨p, l, e, R, s, m, args, below, meth, c, D, σ0, res⟩ := κ
  obtain ⟨own, nm, nL, ret, hh, fr, lo⟩ := μ
  obtain ⟨hx, hb, hml, hown, hts, hK, hr, hlk, hR, hsz, hnm, hex⟩ := id ok
  have hc := (hH.2.2 a).2.1 101 (by decide) ht
  rw [ah_av_i (by decide) (by decide)] at hc
  have hA := (ah_tyOf hK (t := 101) (by decide)).1
  refine W.iast hx hb hc (hA _ (fun j => .int (ah_ai σ a j))) (fun q => by cases q) (by show ¬ (i < 0 ∨ (arrV _ _ _).slots.size ≤ _); rw [arrV_size]; exact ah_inb_in hi) rfl rfl hd fun H1 e z oq => ?_
  exact k ok le H1 _ ls (hH.sA ht (by decide) (by decide) (by decide) (fun h => absurd rfl h) z oq e) (hS.put z oq (ah_Aof le (by omega))) hl
theorem ro_baload {r : Option Nat} {i : Int32} {v : Int32} (hd : decode cc pc = .ok (.baload, 1)) (hp : pc + 1 = pc') (h : ah_lA σ 102 r i = some v) (k : ah_G κ μ cc σ pc' L (.int v :: st)) : ah_G κ μ cc σ pc L (.int i :: va_rf r :: st) := by
  subst hp
  obtain ⟨a, rfl, h⟩ := ah_bs h
  obtain ⟨ht, rfl⟩ := ah_ifs h
  rw [Bool.and_eq_true] at ht
  obtain ⟨ht, hi⟩ := ht
  have ht : ah_tg σ a = 102 := by simpa using ht
  intro ok le H locs ls hH hS hl
  obtain ⟨p, l, e, R, s, m, args, below, meth, c, D, σ0, res⟩ := κ
  obtain ⟨own, nm, nL, ret, hh, fr, lo⟩ := μ
  obtain ⟨hx, hb, hml, hown, hts, hK, hr, hlk, hR, hsz, hnm, hex⟩ := id ok
  have hc := (hH.2.2 a).2.1 102 (by decide) ht
  rw [ah_av_i (by decide) (by decide)] at hc
  have hA := (ah_tyOf hK (t := 102) (by decide)).1
  have hlt := ah_inb_lt hi
  exact W.bald (v := .int (ah_ai σ a i.toNatClampNeg)) hx hb hc (hA _ (fun j => .int (ah_ai σ a j))) (fun q => by cases q) (by show ¬ (i < 0 ∨ (arrV _ _ _).slots.size ≤ _); rw [arrV_size]; exact ah_inb_in hi) (by show (arrV _ _ _).slots[_]? = _; rw [arrV_read _ _ hlt]) rfl rfl hd (k ok le H locs ls hH hS hl)
theorem ro_bastore {r : Option Nat} {i : Int32} {v : Int32} {τ : ah_S} (hd : decode cc pc = .ok (.bastore, 1)) (hp : pc + 1 = pc') (h : ah_wA σ 102 r i (vp_nar .byte v) = some τ) (k : ah_G κ μ cc τ pc' L st) : ah_G κ μ cc σ pc L (.int v :: .int i :: va_rf r :: st) := by
  subst hp
  obtain ⟨a, rfl, h⟩ := ah_bs h
  obtain ⟨ht, rfl⟩ := ah_ifs h
  rw [Bool.and_eq_true] at ht
  obtain ⟨ht, hi⟩ := ht
  have ht : ah_tg σ a = 102 := by simpa using ht
  intro ok le H locs ls hH hS hl
  obtain ⟨p, l, e, R, s, m, args, below, meth, c, D, σ0, res⟩ := κ
  obtain ⟨own, nm, nL, ret, hh, fr, lo⟩ := μ
  obtain ⟨hx, hb, hml, hown, hts, hK, hr, hlk, hR, hsz, hnm, hex⟩ := id ok
  have hc := (hH.2.2 a).2.1 102 (by decide) ht
  rw [ah_av_i (by decide) (by decide)] at hc
  have hA := (ah_tyOf hK (t := 102) (by decide)).1
  refine W.bast hx hb hc (hA _ (fun j => .int (ah_ai σ a j))) (fun q => by cases q) (by show ¬ (i < 0 ∨ (arrV _ _ _).slots.size ≤ _); rw [arrV_size]; exact ah_inb_in hi) rfl rfl hd fun H1 e z oq => ?_
  exact k ok le H1 _ ls (hH.sA ht (by decide) (by decide) (by decide) (fun _ => ah_nf_byte v) z oq e) (hS.put z oq (ah_Aof le (by omega))) hl
theorem ro_saload {r : Option Nat} {i : Int32} {v : Int32} (hd : decode cc pc = .ok (.saload, 1)) (hp : pc + 1 = pc') (h : ah_lA σ 103 r i = some v) (k : ah_G κ μ cc σ pc' L (.int v :: st)) : ah_G κ μ cc σ pc L (.int i :: va_rf r :: st) := by
  subst hp
  obtain ⟨a, rfl, h⟩ := ah_bs h
  obtain ⟨ht, rfl⟩ := ah_ifs h
  rw [Bool.and_eq_true] at ht
  obtain ⟨ht, hi⟩ := ht
  have ht : ah_tg σ a = 103 := by simpa using ht
  intro ok le H locs ls hH hS hl
  obtain ⟨p, l, e, R, s, m, args, below, meth, c, D, σ0, res⟩ := κ
  obtain ⟨own, nm, nL, ret, hh, fr, lo⟩ := μ
  obtain ⟨hx, hb, hml, hown, hts, hK, hr, hlk, hR, hsz, hnm, hex⟩ := id ok
  have hc := (hH.2.2 a).2.1 103 (by decide) ht
  rw [ah_av_i (by decide) (by decide)] at hc
  have hA := (ah_tyOf hK (t := 103) (by decide)).1
  have hlt := ah_inb_lt hi
  exact W.sald (v := .int (ah_ai σ a i.toNatClampNeg)) hx hb hc (hA _ (fun j => .int (ah_ai σ a j))) (fun q => by cases q) (by show ¬ (i < 0 ∨ (arrV _ _ _).slots.size ≤ _); rw [arrV_size]; exact ah_inb_in hi) (by show (arrV _ _ _).slots[_]? = _; rw [arrV_read _ _ hlt]) rfl rfl hd (k ok le H locs ls hH hS hl)
theorem ro_sastore {r : Option Nat} {i : Int32} {v : Int32} {τ : ah_S} (hd : decode cc pc = .ok (.sastore, 1)) (hp : pc + 1 = pc') (h : ah_wA σ 103 r i (vp_nar .short v) = some τ) (k : ah_G κ μ cc τ pc' L st) : ah_G κ μ cc σ pc L (.int v :: .int i :: va_rf r :: st) := by
  subst hp
  obtain ⟨a, rfl, h⟩ := ah_bs h
  obtain ⟨ht, rfl⟩ := ah_ifs h
  rw [Bool.and_eq_true] at ht
  obtain ⟨ht, hi⟩ := ht
  have ht : ah_tg σ a = 103 := by simpa using ht
  intro ok le H locs ls hH hS hl
  obtain ⟨p, l, e, R, s, m, args, below, meth, c, D, σ0, res⟩ := κ
  obtain ⟨own, nm, nL, ret, hh, fr, lo⟩ := μ
  obtain ⟨hx, hb, hml, hown, hts, hK, hr, hlk, hR, hsz, hnm, hex⟩ := id ok
  have hc := (hH.2.2 a).2.1 103 (by decide) ht
  rw [ah_av_i (by decide) (by decide)] at hc
  have hA := (ah_tyOf hK (t := 103) (by decide)).1
  refine W.sast hx hb hc (hA _ (fun j => .int (ah_ai σ a j))) (fun q => by cases q) (by show ¬ (i < 0 ∨ (arrV _ _ _).slots.size ≤ _); rw [arrV_size]; exact ah_inb_in hi) rfl rfl hd fun H1 e z oq => ?_
  exact k ok le H1 _ ls (hH.sA ht (by decide) (by decide) (by decide) (fun _ => ah_nf_short v) z oq e) (hS.put z oq (ah_Aof le (by omega))) hl
theorem ro_zaload {r : Option Nat} {i : Int32} {v : Int32} (hd : decode cc pc = .ok (.baload, 1)) (hp : pc + 1 = pc') (h : ah_lA σ 105 r i = some v) (k : ah_G κ μ cc σ pc' L (.int v :: st)) : ah_G κ μ cc σ pc L (.int i :: va_rf r :: st) := by
  subst hp
  obtain ⟨a, rfl, h⟩ := ah_bs h
  obtain ⟨ht, rfl⟩ := ah_ifs h
  rw [Bool.and_eq_true] at ht
  obtain ⟨ht, hi⟩ := ht
  have ht : ah_tg σ a = 105 := by simpa using ht
  intro ok le H locs ls hH hS hl
  obtain ⟨p, l, e, R, s, m, args, below, meth, c, D, σ0, res⟩ := κ
  obtain ⟨own, nm, nL, ret, hh, fr, lo⟩ := μ
  obtain ⟨hx, hb, hml, hown, hts, hK, hr, hlk, hR, hsz, hnm, hex⟩ := id ok
  have hc := (hH.2.2 a).2.1 105 (by decide) ht
  rw [ah_av_i (by decide) (by decide)] at hc
  have hA := (ah_tyOf hK (t := 105) (by decide)).1
  have hlt := ah_inb_lt hi
  exact W.zald (v := .int (ah_ai σ a i.toNatClampNeg)) hx hb hc (hA _ (fun j => .int (ah_ai σ a j))) (fun q => by cases q) (by show ¬ (i < 0 ∨ (arrV _ _ _).slots.size ≤ _); rw [arrV_size]; exact ah_inb_in hi) (by show (arrV _ _ _).slots[_]? = _; rw [arrV_read _ _ hlt]) rfl rfl hd (k ok le H locs ls hH hS hl)
theorem ro_zastore {r : Option Nat} {i : Int32} {v : Int32} {τ : ah_S} (hd : decode cc pc = .ok (.bastore, 1)) (hp : pc + 1 = pc') (h : ah_wA σ 105 r i (vp_nar .boolean v) = some τ) (k : ah_G κ μ cc τ pc' L st) : ah_G κ μ cc σ pc L (.int v :: .int i :: va_rf r :: st) := by
  subst hp
  obtain ⟨a, rfl, h⟩ := ah_bs h
  obtain ⟨ht, rfl⟩ := ah_ifs h
  rw [Bool.and_eq_true] at ht
  obtain ⟨ht, hi⟩ := ht
  have ht : ah_tg σ a = 105 := by simpa using ht
  intro ok le H locs ls hH hS hl
  obtain ⟨p, l, e, R, s, m, args, below, meth, c, D, σ0, res⟩ := κ
  obtain ⟨own, nm, nL, ret, hh, fr, lo⟩ := μ
  obtain ⟨hx, hb, hml, hown, hts, hK, hr, hlk, hR, hsz, hnm, hex⟩ := id ok
  have hc := (hH.2.2 a).2.1 105 (by decide) ht
  rw [ah_av_i (by decide) (by decide)] at hc
  have hA := (ah_tyOf hK (t := 105) (by decide)).1
  refine W.zast hx hb hc (hA _ (fun j => .int (ah_ai σ a j))) (fun q => by cases q) (by show ¬ (i < 0 ∨ (arrV _ _ _).slots.size ≤ _); rw [arrV_size]; exact ah_inb_in hi) rfl rfl hd fun H1 e z oq => ?_
  exact k ok le H1 _ ls (hH.sA ht (by decide) (by decide) (by decide) (fun _ => ah_nf_boolean v) z oq e) (hS.put z oq (ah_Aof le (by omega))) hl

theorem ro_laload {r : Option Nat} {i : Int32} {v : Int64} (hd : decode cc pc = .ok (.laload, 1)) (hp : pc + 1 = pc') (h : ah_lL σ r i = some v) (k : ah_G κ μ cc σ pc' L (.long v :: st)) : ah_G κ μ cc σ pc L (.int i :: va_rf r :: st) := by
  subst hp
  obtain ⟨a, rfl, h⟩ := ah_bs h
  obtain ⟨ht, rfl⟩ := ah_ifs h
  rw [Bool.and_eq_true] at ht
  obtain ⟨ht, hi⟩ := ht
  have ht : ah_tg σ a = 104 := by simpa using ht
  intro ok le H locs ls hH hS hl
  obtain ⟨p, l, e, R, s, m, args, below, meth, c, D, σ0, res⟩ := κ
  obtain ⟨own, nm, nL, ret, hh, fr, lo⟩ := μ
  obtain ⟨hx, hb, hml, hown, hts, hK, hr, hlk, hR, hsz, hnm, hex⟩ := id ok
  have hc := (hH.2.2 a).2.1 104 (by decide) ht
  rw [ah_av_l] at hc
  have hA := (ah_tyOf hK (t := 104) (by decide)).1
  have hlt := ah_inb_lt hi
  exact W.lald (v := .long (ah_al σ a i.toNatClampNeg)) hx hb hc (hA _ (fun j => .long (ah_al σ a j))) (fun q => by cases q) (by show ¬ (i < 0 ∨ (arrV _ _ _).slots.size ≤ _); rw [arrV_size]; exact ah_inb_in hi) (by show (arrV _ _ _).slots[_]? = _; rw [arrV_read _ _ hlt]) rfl rfl hd (k ok le H locs ls hH hS hl)
theorem ro_lastore {r : Option Nat} {i : Int32} {v : Int64} {τ : ah_S} (hd : decode cc pc = .ok (.lastore, 1)) (hp : pc + 1 = pc') (h : ah_wL σ r i v = some τ) (k : ah_G κ μ cc τ pc' L st) : ah_G κ μ cc σ pc L (.long v :: .int i :: va_rf r :: st) := by
  subst hp
  obtain ⟨a, rfl, h⟩ := ah_bs h
  obtain ⟨ht, rfl⟩ := ah_ifs h
  rw [Bool.and_eq_true] at ht
  obtain ⟨ht, hi⟩ := ht
  have ht : ah_tg σ a = 104 := by simpa using ht
  intro ok le H locs ls hH hS hl
  obtain ⟨p, l, e, R, s, m, args, below, meth, c, D, σ0, res⟩ := κ
  obtain ⟨own, nm, nL, ret, hh, fr, lo⟩ := μ
  obtain ⟨hx, hb, hml, hown, hts, hK, hr, hlk, hR, hsz, hnm, hex⟩ := id ok
  have hc := (hH.2.2 a).2.1 104 (by decide) ht
  rw [ah_av_l] at hc
  have hA := (ah_tyOf hK (t := 104) (by decide)).1
  refine W.last hx hb hc (hA _ (fun j => .long (ah_al σ a j))) (fun q => by cases q) (by show ¬ (i < 0 ∨ (arrV _ _ _).slots.size ≤ _); rw [arrV_size]; exact ah_inb_in hi) rfl rfl hd fun H1 e z oq => ?_
  exact k ok le H1 _ ls (hH.sL ht z oq e) (hS.put z oq (ah_Aof le (by omega))) hl
theorem ro_aaload {t : Nat} {r : Option Nat} {i : Int32} {v : Option Nat} (ht0 : t ∈ ah_tags) (h111 : 111 ≤ t) {C : String} (hC : ah_aty t = .object C) (hd : decode cc pc = .ok (.aaload, 1)) (hp : pc + 1 = pc') (h : ah_lQ σ t r i = some v) (k : ah_G κ μ cc σ pc' L (va_rf v :: st)) : ah_G κ μ cc σ pc L (.int i :: va_rf r :: st) := by
  subst hp
  obtain ⟨a, rfl, h⟩ := ah_bs h
  obtain ⟨ht, rfl⟩ := ah_ifs h
  rw [Bool.and_eq_true] at ht
  obtain ⟨ht, hi⟩ := ht
  have ht : ah_tg σ a = t := by simpa using ht
  intro ok le H locs ls hH hS hl
  obtain ⟨p, l, e, R, s, m, args, below, meth, c, D, σ0, res⟩ := κ
  obtain ⟨own, nm, nL, ret, hh, fr, lo⟩ := μ
  obtain ⟨hx, hb, hml, hown, hts, hK, hr, hlk, hR, hsz, hnm, hex⟩ := id ok
  have hc := (hH.2.2 a).2.1 t (by omega) ht
  rw [ah_av_q (by omega) h111] at hc
  have hA := (ah_tyOf hK ht0).1
  rw [hC] at hA
  have hlt := ah_inb_lt hi
  exact W.aald (v := va_rf (ah_ar σ a i.toNatClampNeg)) (ty := .object C) hx hb hc (hA _ (fun j => va_rf (ah_ar σ a j))) rfl (fun q => by cases q) (by show ¬ (i < 0 ∨ (arrV _ _ _).slots.size ≤ _); rw [arrV_size]; exact ah_inb_in hi) (by show (arrV _ _ _).slots[_]? = _; rw [arrV_read _ _ hlt]) rfl rfl hd (k ok le H locs ls hH hS hl)
theorem ro_alen {r : Option Nat} {v : Int32} (hd : decode cc pc = .ok (.arraylength, 1)) (hp : pc + 1 = pc') (h : ah_al_ σ r = some v) (k : ah_G κ μ cc σ pc' L (.int v :: st)) : ah_G κ μ cc σ pc L (va_rf r :: st) := by
  subst hp
  obtain ⟨a, rfl, h⟩ := ah_bs h
  obtain ⟨ht, rfl⟩ := ah_ifs h
  simp only [Bool.or_eq_true, Bool.and_eq_true, decide_eq_true_eq] at ht
  intro ok le H locs ls hH hS hl
  obtain ⟨p, l, e, R, s, m, args, below, meth, c, D, σ0, res⟩ := κ
  obtain ⟨own, nm, nL, ret, hh, fr, lo⟩ := μ
  obtain ⟨hx, hb, hml, hown, hts, hK, hr, hlk, hR, hsz, hnm, hex⟩ := id ok
  have hm : ah_tg σ a ∈ ah_tags := by
    rcases (show ah_tg σ a = 101 ∨ ah_tg σ a = 102 ∨ ah_tg σ a = 103 ∨ ah_tg σ a = 104 ∨ ah_tg σ a = 105 ∨ ah_tg σ a = 111 ∨ ah_tg σ a = 112 ∨ ah_tg σ a = 113 ∨ ah_tg σ a = 114 ∨ ah_tg σ a = 115 ∨ ah_tg σ a = 116 by omega) with q | q | q | q | q | q | q | q | q | q | q <;> rw [q] <;> decide
  have hc := (hH.2.2 a).2.1 _ (by omega) rfl
  have hA := (ah_tyOf hK hm).1
  have key : ∀ x : vp_A, H[a]? = some (vp_cell (D.2.2 (ah_tg σ a)) x) → W p l e R s m args below meth c H locs (ah_rc σ0 - ah_rc σ) (ah_rs σ0 - ah_rs σ) (ah_MQ below D σ0 res s) (F0 m (pc + 1) ls (.int (Int32.ofNat x.1) :: st)) → W p l e R s m args below meth c H locs (ah_rc σ0 - ah_rc σ) (ah_rs σ0 - ah_rs σ) (ah_MQ below D σ0 res s) (F0 m pc ls (.ref a :: st)) := by
    intro x hc kk
    obtain ⟨n, f | f | f | f | f⟩ := x
    · exact W.alen (n := Int32.ofNat n) hx hb hc (hA n (fun j => .int (f j))) (by rw [vp_cell_i, arrV_size] <;> rfl) rfl rfl hd kk
    · exact W.alen (n := Int32.ofNat n) hx hb hc (hA n (fun j => .long (f j))) (by rw [vp_cell_l, arrV_size] <;> rfl) rfl rfl hd kk
    · exact W.alen (n := Int32.ofNat n) hx hb hc (hA n (fun j => .float (f j))) (by rw [vp_cell_f, arrV_size] <;> rfl) rfl rfl hd kk
    · exact W.alen (n := Int32.ofNat n) hx hb hc (hA n (fun j => .double (f j))) (by rw [vp_cell_d, arrV_size] <;> rfl) rfl rfl hd kk
    · exact W.alen (n := Int32.ofNat n) hx hb hc (hA n (fun j => va_rf (f j))) (by rw [vp_cell_q, arrV_size] <;> rfl) rfl rfl hd kk
  exact key _ hc (k ok le H locs ls hH hS hl)
theorem ro_newa {t : Nat} {atype : ArrayType} {n : Int32} {τ : ah_S} (ht0 : 101 ≤ t ∧ t ≤ 105) (hty : newarray.typeOf atype = ah_aty t) (hq : Cond.arrayClass (ah_aty t) ∈ lw_all) (hd : decode cc pc = .ok (.newarray atype, 2)) (hp : pc + 2 = pc') (h : ah_mA σ t n = some τ) (k : ah_G κ μ cc τ pc' L (va_rf (some (ah_nx σ)) :: st)) : ah_G κ μ cc σ pc L (.int n :: st) := by
  subst hp
  unfold ah_mA at h
  obtain ⟨hc, rfl⟩ := ah_ifs h
  simp only [Bool.and_eq_true, Bool.not_eq_true', decide_eq_false_iff_not, decide_eq_true_eq] at hc
  obtain ⟨⟨⟨h0, hby⟩, hrc⟩, hrs⟩ := hc
  intro ok le H locs ls hH hS hl
  obtain ⟨p, l, e, R, s, m, args, below, meth, c, D, σ0, res⟩ := κ
  obtain ⟨own, nm, nL, ret, hh, fr, lo⟩ := μ
  obtain ⟨hx, hb, hml, hown, hts, hK, hr, hlk, hR, hsz, hnm, hex⟩ := id ok
  have hsz2 : H.size = ah_nx σ := hH.1
  have hRc : R.cells = ah_rc σ0 := by rw [hR]; rfl
  have hRs : R.slots = ah_rs σ0 := by rw [hR]; rfl
  have l1 : ah_rc σ ≤ ah_rc σ0 := le.2.1
  have l2 : ah_rs σ ≤ ah_rs σ0 := le.2.2.1
  have hm : t ∈ ah_tags := by rcases (show t = 101 ∨ t = 102 ∨ t = 103 ∨ t = 104 ∨ t = 105 by omega) with rfl | rfl | rfl | rfl | rfl <;> decide
  refine va_newaK (N := n.toNatClampNeg) hx hb (by rw [hty]; exact hts _ hq) rfl hd rfl h0 rfl (Nat.le_trans (Nat.mul_le_mul_left _ (ah_bytes _)) hby) (by omega) (by omega) rfl fun H1 cA e1 z1 o1 hAr hNm => ?_
  have hcA : cA = D.2.2 t := by
    have hr2 := (ah_tyOf hK hm).2
    rw [hty] at hNm
    have : s.vm.findClass ("[" ++ (ah_aty t).toString) = some (D.2.2 t) := by
      rcases (show t = 101 ∨ t = 102 ∨ t = 103 ∨ t = 104 ∨ t = 105 by omega) with rfl | rfl | rfl | rfl | rfl <;> exact hr2
    exact Option.some.inj (hNm.symm.trans this)
  subst hcA
  have hk1 := k ok (le.new t n.toNatClampNeg) H1 locs ls (hH.new z1 o1 (by omega) (fun ci r g1 g2 => by
      exfalso
      have h2 : ci < ah_cl.length := (List.getElem?_eq_some_iff.mp g2).1
      have h3 : ah_cl.length = 22 := rfl
      omega) (fun x _ hxe => by
      rw [e1, hxe, hty]
      rcases (show t = 101 ∨ t = 102 ∨ t = 103 ∨ t = 104 ∨ t = 105 by omega) with rfl | rfl | rfl | rfl | rfl <;> rfl) (fun g => by exfalso; omega)) (hS.grow z1 o1) hl
  have hrc2 : ah_rc (ah_new σ t n.toNatClampNeg) = ah_rc σ - 1 := rfl
  have hrs2 : ah_rs (ah_new σ t n.toNatClampNeg) = ah_rs σ - n.toNatClampNeg := rfl
  unfold ah_W at hk1
  dsimp only at hk1
  rw [hrc2, hrs2, show ah_rc σ0 - (ah_rc σ - 1) = ah_rc σ0 - ah_rc σ + 1 by omega, show ah_rs σ0 - (ah_rs σ - n.toNatClampNeg) = ah_rs σ0 - ah_rs σ + n.toNatClampNeg by omega] at hk1
  rw [hsz2]
  exact hk1
end
section
variable {κ : ah_C} {own : String} {μ : String × Nat × Option FieldType × List (Nat × Nat × Nat × Nat) × Nat × Nat} {cc : ByteArray} {σ : ah_S} {pc pc' : Nat} {L L' : List (Option Value)} {st : List Value}
theorem ro_anew {t idx : Nat} {C : String} {n : Int32} {τ : ah_S} (ht0 : 111 ≤ t ∧ t ≤ 116) (hC : ah_aty t = .object C) (hq : Cond.classLink own idx C ∈ lw_all) (hao : Cond.arrayOver (.object C) ∈ ah_nw) (hd : decode cc pc = .ok (.anewarray idx, 3)) (hp : pc + 3 = pc') (h : ah_mA σ t n = some τ) (k : ah_G κ (own, μ) cc τ pc' L (va_rf (some (ah_nx σ)) :: st)) : ah_G κ (own, μ) cc σ pc L (.int n :: st) := by
  subst hp
  unfold ah_mA at h
  obtain ⟨hc, rfl⟩ := ah_ifs h
  simp only [Bool.and_eq_true, Bool.not_eq_true', decide_eq_false_iff_not, decide_eq_true_eq] at hc
  obtain ⟨⟨⟨h0, hby⟩, hrc⟩, hrs⟩ := hc
  intro ok le H locs ls hH hS hl
  obtain ⟨p, l, e, R, s, m, args, below, meth, c, D, σ0, res⟩ := κ
  obtain ⟨nm, nL, ret, hh, fr, lo⟩ := μ
  obtain ⟨hx, hb, hml, hown, hts, hK, hr, hlk, hR, hsz, hnm, hex⟩ := id ok
  have hsz2 : H.size = ah_nx σ := hH.1
  have hRc : R.cells = ah_rc σ0 := by rw [hR]; rfl
  have hRs : R.slots = ah_rs σ0 := by rw [hR]; rfl
  have l1 : ah_rc σ ≤ ah_rc σ0 := le.2.1
  have l2 : ah_rs σ ≤ ah_rs σ0 := le.2.2.1
  have hm : t ∈ ah_tags := by rcases (show t = 111 ∨ t = 112 ∨ t = 113 ∨ t = 114 ∨ t = 115 ∨ t = 116 by omega) with rfl | rfl | rfl | rfl | rfl | rfl <;> decide
  have hA0 : va_AO C s := hK.2.1 _ hao
  refine W.anew hx hb hown (hts _ hq) (va_AO.use hA0) rfl hd rfl h0 (by omega) (by omega) (by omega) fun cA kA comp f1 f2 f3 f4 => ?_
  generalize hH1 : H.push ({ cls := cA, slots := Array.replicate n.toNatClampNeg .null, vm := .none } : Cell) = H1
  have z1 : H1.size = H.size + 1 := by rw [← hH1, Array.size_push]
  have e1 : H1[H.size]? = some (arrV cA n.toNatClampNeg (fun _ => .null)) := by rw [← hH1, Array.getElem?_push_size, ← arrV_new]
  have o1 : ∀ q : Nat, q < H.size → H1[q]? = H[q]? := fun q hq => by rw [← hH1, Array.getElem?_push, if_neg (Nat.ne_of_lt hq)]
  have hcA : cA = D.2.2 t := by
    have hr2 := (ah_tyOf hK hm).2
    rw [hC] at hr2
    obtain ⟨_, _, -, -, -, h4⟩ := hr2
    exact Option.some.inj (f1.symm.trans h4)
  subst hcA
  have hk1 := k ok (le.new t n.toNatClampNeg) H1 locs ls (hH.new z1 o1 (by omega) (fun ci r g1 g2 => by
      exfalso
      have h2 : ci < ah_cl.length := (List.getElem?_eq_some_iff.mp g2).1
      have h3 : ah_cl.length = 22 := rfl
      omega) (fun x _ hxe => by
      rw [e1, hxe, if_neg (by omega), if_pos ht0.1]
      rfl) (fun g => by exfalso; omega)) (hS.grow z1 o1) hl
  have hrc2 : ah_rc (ah_new σ t n.toNatClampNeg) = ah_rc σ - 1 := rfl
  have hrs2 : ah_rs (ah_new σ t n.toNatClampNeg) = ah_rs σ - n.toNatClampNeg := rfl
  unfold ah_W at hk1
  dsimp only at hk1
  rw [hrc2, hrs2, show ah_rc σ0 - (ah_rc σ - 1) = ah_rc σ0 - ah_rc σ + 1 by omega, show ah_rs σ0 - (ah_rs σ - n.toNatClampNeg) = ah_rs σ0 - ah_rs σ + n.toNatClampNeg by omega] at hk1
  rw [hsz2]
  exact hk1
theorem ro_new {ci N n idx : Nat} {C : String} {T : u_T} {ty : Nat → FieldType} {τ : ah_S} (ct : ah_CT ci C T N ty) (hdef : ∀ j, j < N → defaultValue (ty j) = if ah_isR (ah_fid ci j) = true then .null else .int 0) (hun : ci = 1 ∨ ci = 3 → n = 6) (hq : Cond.classLink own idx C ∈ lw_all) (hq2 : Cond.instantiable C n ∈ lw_all) (hq3 : Cond.initialized C ∈ lw_all) (hd : decode cc pc = .ok (.new idx, 3)) (hp : pc + 3 = pc') (h : ah_mO σ (ci + 1) n = some τ) (k : ah_G κ (own, μ) cc τ pc' L (va_rf (some (ah_nx σ)) :: st)) : ah_G κ (own, μ) cc σ pc L st := by
  subst hp
  unfold ah_mO at h
  obtain ⟨hc, rfl⟩ := ah_ifs h
  simp only [Bool.and_eq_true, decide_eq_true_eq] at hc
  obtain ⟨hrc, hrs⟩ := hc
  intro ok le H locs ls hH hS hl
  obtain ⟨p, l, e, R, s, m, args, below, meth, c, D, σ0, res⟩ := κ
  obtain ⟨nm, nL, ret, hh, fr, lo⟩ := μ
  obtain ⟨hx, hb, hml, hown, hts, hK, hr, hlk, hR, hsz, hnm, hex⟩ := id ok
  have hsz2 : H.size = ah_nx σ := hH.1
  have hRc : R.cells = ah_rc σ0 := by rw [hR]; rfl
  have hRs : R.slots = ah_rs σ0 := by rw [hR]; rfl
  have l1 : ah_rc σ ≤ ah_rc σ0 := le.2.1
  have l2 : ah_rs σ ≤ ah_rs σ0 := le.2.2.1
  have hKn := hK.1.1 ci _ ct.1
  refine W.newcK hx hb hown (hts _ hq) (hts _ hq2) (hts _ hq3) rfl hd (by omega) (by omega) hKn.2.1 rfl fun H1 kC hkC e1 z1 o1 => ?_
  have hk1 := k ok (le.new (ci + 1) n) H1 locs ls (hH.new z1 o1 (by omega) (fun ci' r g1 g2 => by
      have e : ci' = ci := by omega
      subst e
      rw [ct.1] at g2
      cases g2
      exact (u_born ty hts ct.2.1 hKn hkC e1 ct.2.2.1).to hdef) (fun x h101 _ => by
      exfalso
      have := ct.lt
      omega) (fun g => by
      refine ⟨_, e1, ?_⟩
      obtain ⟨cC, kC', f1, f2, -, -, -, f3⟩ := Cond.instantiable_spec (hts _ hq2)
      have e1' : cC = D.1 ci := Option.some.inj (f1.symm.trans hKn.2.1)
      subst e1'
      cases hkC.symm.trans f2
      have hn6 : n = 6 := hun (by omega)
      have : (blank (D.1 ci) kC).slots.size = kC.instanceTypes.size := by simp [blank]
      rw [this, ← hn6]
      exact f3)) (hS.grow z1 o1) hl
  have hrc2 : ah_rc (ah_new σ (ci + 1) n) = ah_rc σ - 1 := rfl
  have hrs2 : ah_rs (ah_new σ (ci + 1) n) = ah_rs σ - n := rfl
  unfold ah_W at hk1
  dsimp only at hk1
  rw [hrc2, hrs2, show ah_rc σ0 - (ah_rc σ - 1) = ah_rc σ0 - ah_rc σ + 1 by omega, show ah_rs σ0 - (ah_rs σ - n) = ah_rs σ0 - ah_rs σ + n by omega] at hk1
  rw [hsz2]
  exact hk1
end
