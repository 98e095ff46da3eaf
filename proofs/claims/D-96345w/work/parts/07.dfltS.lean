/-! ===== super calls that land in an interface's default method ===== -/
def dm_nx (vm : Vm) (x : ClassId) : Option ClassId := (vm.classes[x]?).bind (·.super)
def dm_own (vm : Vm) (name desc : String) (x : ClassId) : Option Nat := (vm.classes[x]?).bind (·.findMethod name desc)
def dm_go (vm : Vm) : Nat → ClassId → Option ClassId
  | 0, x => some x
  | k + 1, x => (dm_nx vm x).bind (dm_go vm k)
theorem dm_go_add (vm : Vm) : ∀ (a b : Nat) (x : ClassId), dm_go vm (a + b) x = (dm_go vm a x).bind (dm_go vm b)
  | 0, b, x => by rw [Nat.zero_add]; rfl
  | a + 1, b, x => by
    rw [show a + 1 + b = (a + b) + 1 by omega]
    show (dm_nx vm x).bind (dm_go vm (a + b)) = ((dm_nx vm x).bind (dm_go vm a)).bind (dm_go vm b)
    cases dm_nx vm x with
    | none => rfl
    | some q => exact dm_go_add vm a b q
theorem dm_look {vm : Vm} {name desc : String} : ∀ (k m : Nat) (c y : ClassId), m ≤ k → dm_go vm m c = some y → dm_own vm name desc y ≠ none → lookupInSuperclasses vm name desc (k + 1) c ≠ none
  | k, 0, c, y, _, h, ho => by
    cases h
    intro hn
    unfold lookupInSuperclasses at hn
    unfold dm_own at ho
    cases hk : vm.classes[c]? with
    | none => rw [hk] at ho; exact ho rfl
    | some q =>
      rw [hk] at ho
      simp only [Option.bind_some] at ho
      cases hf : q.findMethod name desc with
      | none => exact ho hf
      | some i => simp [hk, hf] at hn
  | 0, m + 1, c, y, hle, _, _ => by omega
  | k + 1, m + 1, c, y, hle, h, ho => by
    intro hn
    unfold lookupInSuperclasses at hn
    have h' : (dm_nx vm c).bind (dm_go vm m) = some y := h
    unfold dm_nx at h'
    cases hk : vm.classes[c]? with
    | none => rw [hk] at h'; cases h'
    | some q =>
      rw [hk] at h'
      simp only [Option.bind_some] at h'
      cases hs : q.super with
      | none => rw [hs] at h'; cases h'
      | some z =>
        rw [hs] at h'
        simp only [Option.bind_some] at h'
        cases hf : q.findMethod name desc with
        | some i => simp [hk, hf] at hn
        | none =>
          simp only [hk, hf, hs, Option.bind_eq_bind, Option.bind_some] at hn
          exact dm_look k m z y (by omega) h' ho hn
theorem dm_lt {vm : Vm} {x y : ClassId} (h : dm_nx vm x = some y) : x < vm.classes.size := by
  unfold dm_nx at h
  cases hk : vm.classes[x]? with
  | none => rw [hk] at h; cases h
  | some q => exact (Array.getElem?_eq_some_iff.mp hk).1
theorem dm_ltO {vm : Vm} {name desc : String} {x : ClassId} (h : dm_own vm name desc x ≠ none) : x < vm.classes.size := by
  unfold dm_own at h
  cases hk : vm.classes[x]? with
  | none => rw [hk] at h; exact absurd rfl h
  | some q => exact (Array.getElem?_eq_some_iff.mp hk).1
theorem dm_short {vm : Vm} {name desc : String} {c : ClassId} (n : Nat) : ∀ x, dm_go vm n c = some x → dm_own vm name desc x ≠ none → ∃ m, m ≤ vm.classes.size ∧ ∃ y, dm_go vm m c = some y ∧ dm_own vm name desc y ≠ none := by
  induction n using Nat.strongRecOn with
  | ind n ih =>
    intro x hx ho
    by_cases hn : n ≤ vm.classes.size
    · exact ⟨n, hn, x, hx, ho⟩
    -- every earlier place is there
    have pre : ∀ i, i ≤ n → ∃ z, dm_go vm i c = some z ∧ z < vm.classes.size := by
      intro i hi
      have e : dm_go vm (i + (n - i)) c = some x := by rw [show i + (n - i) = n by omega]; exact hx
      rw [dm_go_add] at e
      cases hz : dm_go vm i c with
      | none => rw [hz] at e; cases e
      | some z =>
        rw [hz] at e
        refine ⟨z, rfl, ?_⟩
        have e' : dm_go vm (n - i) z = some x := e
        cases hd : n - i with
        | zero => rw [hd] at e'; cases e'; exact dm_ltO ho
        | succ j =>
          rw [hd] at e'
          have e2 : (dm_nx vm z).bind (dm_go vm j) = some x := e'
          cases hq : dm_nx vm z with
          | none => rw [hq] at e2; cases e2
          | some q => exact dm_lt hq
    have two : ∃ i j, i < j ∧ j ≤ n ∧ dm_go vm i c = dm_go vm j c := by
      apply Classical.byContradiction
      intro hno
      have hnd : ((List.range (n + 1)).map (fun i => (dm_go vm i c).getD 0)).Nodup := by
        rw [List.nodup_iff_pairwise_ne, List.pairwise_map]
        refine List.Pairwise.imp_of_mem ?_ (List.pairwise_lt_range (n := n + 1))
        intro i j hi hj hij heq
        have hi' := List.mem_range.mp hi
        have hj' := List.mem_range.mp hj
        obtain ⟨zi, h1, -⟩ := pre i (by omega)
        obtain ⟨zj, h2, -⟩ := pre j (by omega)
        rw [h1, h2] at heq
        exact hno ⟨i, j, hij, by omega, by rw [h1, h2]; exact congrArg some heq⟩
      have hsub : ((List.range (n + 1)).map (fun i => (dm_go vm i c).getD 0)) ⊆ List.range vm.classes.size := by
        intro z hz
        obtain ⟨i, hi, rfl⟩ := List.mem_map.mp hz
        obtain ⟨zi, h1, h2⟩ := pre i (by have := List.mem_range.mp hi; omega)
        rw [h1]
        exact List.mem_range.mpr h2
      have hl := List.Nodup.length_le_of_subset hnd hsub
      simp only [List.length_map, List.length_range] at hl
      omega
    obtain ⟨i, j, hij, hj, he⟩ := two
    have e : dm_go vm (i + (n - j)) c = some x := by
      rw [dm_go_add, he, ← dm_go_add, show j + (n - j) = n by omega]
      exact hx
    exact ih (i + (n - j)) (by omega) x e ho
theorem dm_mem {vm : Vm} : ∀ (n : Nat) (c x : ClassId), x ∈ vm.superclassesAux n c → ∃ m, dm_go vm m c = some x
  | 0, c, x, h => by simp [Vm.superclassesAux] at h
  | n + 1, c, x, h => by
    unfold Vm.superclassesAux at h
    cases hq : vm.classes[c]?.bind (·.super) with
    | none => rw [hq] at h; simp at h
    | some q =>
      rw [hq] at h
      rcases List.mem_cons.mp h with rfl | h
      · exact ⟨1, by show (dm_nx vm c).bind (dm_go vm 0) = _; rw [show dm_nx vm c = some x from hq]; rfl⟩
      · obtain ⟨m, hm⟩ := dm_mem n q x h
        exact ⟨m + 1, by show (dm_nx vm c).bind (dm_go vm m) = _; rw [show dm_nx vm c = some q from hq]; exact hm⟩
theorem dm_none {vm : Vm} {name desc : String} {c : ClassId} (h : lookupInSuperclasses vm name desc (vm.classes.size + 1) c = none) (m : Nat) (x : ClassId) (hx : dm_go vm m c = some x) : dm_own vm name desc x = none := by
  apply Classical.byContradiction
  intro ho
  obtain ⟨m', hm', y, h1, h2⟩ := dm_short m x hx ho
  exact dm_look _ m' c y hm' h1 h2 h
theorem dm_selN {vm : Vm} {mR : MethodId} {name desc : String} : ∀ (n : Nat) (c : ClassId), lookupInSuperclasses vm name desc n c = none → selectInSuperclasses vm mR name desc n c = none
  | 0, _, _ => rfl
  | n + 1, c, h => by
    unfold lookupInSuperclasses at h
    unfold selectInSuperclasses
    cases hk : vm.classes[c]? with
    | none => rfl
    | some k =>
      rw [hk] at h
      cases hf : k.findMethod name desc with
      | some i => simp [hf] at h
      | none =>
        simp only [hf, Option.bind_eq_bind, Option.bind_some] at h
        cases hs : k.super with
        | none => simp [hf, hs]
        | some q =>
          rw [hs] at h
          simp
          refine ⟨fun a ha => ?_, fun a ha => ?_⟩
          · rw [hf] at ha
            exact absurd ha (by simp)
          · rw [hs] at ha
            obtain rfl := Option.some.inj ha
            exact dm_selN n _ h
/-- invokespecial's lookup finds the default, where the lookup of the name finds it and the selection ends there -/
theorem dm_special {vm : Vm} {c : ClassId} {k mk : Class} {name desc : String} {r : MethodId} {rm : Method} (hk : vm.classes[c]? = some k) (hni : k.isInterface = false) (hl : vm.lookupUp c name desc = some r) (hm : vm.method? r = some rm) (hst : rm.isStatic = false) (hpr : rm.isPrivate = false) (hnm : rm.name = name ∧ rm.desc = desc)
    (hmk : vm.classes[r.cls]? = some mk) (hitf : mk.isInterface = true) (hsel : selectMethod {} vm c r = .method r) : lookupSpecial vm c name desc = .method r := by
  cases hA : lookupInSuperclasses vm name desc (vm.classes.size + 1) c with
  | some x =>
    have : x = r := by simpa [Vm.lookupUp, hA] using hl
    subst this
    exact lookupSpecial_of_superclasses hk hni hA hm hst
  | none =>
    obtain ⟨rfl, rfl⟩ := hnm
    have own0 : (vm.classes[c]?.bind (·.findMethod rm.name rm.desc)) = none := dm_none hA 0 c rfl
    have sup0 : superclassMethods vm c rm.name rm.desc = [] := by
      unfold superclassMethods
      rw [List.filterMap_eq_nil_iff]
      intro x hx
      obtain ⟨m, hm⟩ := dm_mem _ _ _ hx
      have := dm_none hA m x hm
      unfold dm_own at this
      rw [this]; rfl
    have sel0 := dm_selN (mR := r) _ _ hA
    unfold selectMethod at hsel
    simp only [hm, hpr, Bool.false_eq_true, if_false, sel0, hmk, Option.any_some, hitf, Bool.not_true, Bool.and_false] at hsel
    unfold lookupSpecial
    simp only [own0, sup0, List.filter_nil, Option.map_none, Option.toList_none, List.append_nil, List.find?_nil]
    split at hsel
    · cases hsel
    · exact hsel
section
variable {p : Program} {l : Launch} {e : Env} {R : Room} {s : State} {m : MethodId} {args : Array Value} {below : List Frame} {meth : Method} {c : Code} {T : State} {locs : List Loc} {cells slots : Nat}
/-- invokevirtual, where the selection ends at an interface's default -/
theorem dm_invV (X : Stand p l e R s m args below meth c T locs cells slots) (hexec : p.tables.exec = Jvm.exec)
    {own owner : String} {index : Nat} {x : MethodName} (hown : s.vm.findClass own = some m.cls) (hlink : (Cond.methodLink own index x).before args s = true)
    (hsame : (Cond.sameMethod x.cls owner x.name x.desc).before args s = true) (howner : owner ≠ "java/lang/invoke/MethodHandle" ∧ owner ≠ "java/lang/invoke/VarHandle")
    {r0 : MethodId} {r : Method} (hn : s.methodNamed? ⟨owner, x.name, x.desc⟩ = some r0) (hrm : s.vm.method? r0 = some r) (hstatic : r.isStatic = false)
    {a : Addr} {cell : Cell} (hcell : T.heap[a]? = some cell) (hobj : ∀ c, cell.vm ≠ .statics c)
    {m' : MethodId} {meth' : Method} {mk : Class} (hsel : selectMethod e.platform s.vm cell.cls r0 = .method m') (hm' : s.vm.method? m' = some meth') (habs : meth'.isAbstract = false)
    (hmk : s.vm.classes[m'.cls]? = some mk) (hitf : mk.isInterface = true) (hok : dm_ok s.vm cell.cls r.name r.desc m')
    {g : JFrame} (hg : g.method = m) {argsL rest : List Value} (hlen : argsL.length = r.sig.parameters.length) (hstack : g.stack = argsL.reverse ++ .ref a :: rest)
    (hdg : decode c.code g.pc = .ok (.invokevirtual index, 3)) :
    ∃ vm', Stand p l e R s m args below meth c (T.setVm vm') locs cells slots ∧
      ∀ target, (∀ acts, Steps p.tables e below (doInvoke e ((T.setVm vm').setTop { g with stack := rest }) acts m' (.ref a :: argsL).toArray).1 target) → Steps p.tables e below (T.setTop g) target := by
  have hpl : e.platform.magicAccessors = ({} : Platform).magicAccessors := by rw [X.admits.platform]
  obtain ⟨cn, ck, r1, hcn, hck, hni, hf, hn1⟩ := Cond.sameMethod_found hsame
  cases hn.symm.trans hn1
  obtain ⟨ci, hl, hright⟩ := Cond.methodLink_specUp hown hcn hck hni hf hlink e.platform hpl (by rw [X.admits.platform])
  have hE : s.MethodEntryUp e T.vm m.cls index cn r0 ci := State.methodEntryUp X.warmed hl hright
  obtain ⟨kr, hkr, hnr⟩ := className_of_methodNamed hn
  obtain ⟨dk, cfile, nt, _, _, _, _, _, hd, hcf, hcp, -⟩ := hl.here
  have alike := hE.warmed.alike
  obtain ⟨dk₂, hdk₂, hres⟩ := hE.classReady
  obtain ⟨dk₃, hdk₃, hed⟩ := alike.2.2 _ _ hd
  cases hdk₂.symm.trans hdk₃
  obtain ⟨kr₂, hkr₂, her⟩ := alike.2.2 _ _ hkr
  obtain ⟨ck₂, hck₂, hec⟩ := alike.2.2 _ _ hck
  obtain ⟨mk₂, hmk₂, hem⟩ := alike.2.2 _ _ hmk
  refine ⟨T.vm.calledUp m.cls ci index cn r0, X.noted hE.warmed, fun target hrest => ?_⟩
  subst hg
  have hok2 : dm_ok (T.vm.calledUp g.method.cls ci index cn r0) cell.cls r.name r.desc m' := by
    unfold dm_ok
    rw [dm_near alike]
    exact hok
  jvm_step X.here [hexec, hdg, invokevirtual.wp_coldUp (e := e) (s := T) (s₀ := s) (f := g) X.here.top X.warmed hE hd hcf (Or.inl hcp) hck hni,
    dm_named (e := e) (s := T.setVm (T.vm.calledUp g.method.cls ci index cn r0)) (f := g) (r := r0) (m := m') (c' := cn) (k := kr₂) (k' := ck₂) (mk := mk₂) (rmeth := r) (meth := meth') (a := a) (args := argsL) (rest := rest) (cell := cell)
      X.here.top ⟨dk₂, cfile, ci, nt, hdk₂, by rw [hed]; exact hcf, Or.inl hcp, dk₂, hdk₂, hres⟩ hck₂ (by rw [hec]; exact hni) hE.ready hkr₂
      (by show (T.vm.calledUp g.method.cls ci index cn r0).method? r0 = some r; rw [alike.method?]; exact hrm)
      (by rw [her]; show signaturePolymorphic kr r = false; simp [signaturePolymorphic, hnr, howner.1, howner.2]) hstatic hlen hstack hcell hobj
      (by show selectMethod e.platform (T.vm.calledUp g.method.cls ci index cn r0) cell.cls r0 = .method m'; rw [alike.selectMethod]; exact hsel)
      (by show (T.vm.calledUp g.method.cls ci index cn r0).method? m' = some meth'; rw [alike.method?]; exact hm') habs hmk₂ (by rw [hem]; exact hitf) hok2]
  exact hrest
/-- invokespecial of the superclass's method, whoever holds it -/
theorem dm_invS (X : Stand p l e R s m args below meth c T locs cells slots) (hexec : p.tables.exec = Jvm.exec)
    {own owner : String} {index : Nat} {x : MethodName} (hown : s.vm.findClass own = some m.cls) (hlink : (Cond.methodLink own index x).before args s = true)
    (hsame : (Cond.sameMethod x.cls owner x.name x.desc).before args s = true)
    {r0 : MethodId} {r : Method} (hn : s.methodNamed? ⟨owner, x.name, x.desc⟩ = some r0) (hrm : s.vm.method? r0 = some r) (hstatic : r.isStatic = false) (habs : r.isAbstract = false) (hnoinit : x.name ≠ "<init>")
    {dk : Class} {cn : ClassId} (hd : s.vm.classes[m.cls]? = some dk) (hnid : dk.isInterface = false) (hcn : s.vm.findClass x.cls = some cn) (hsuper : dk.super = some cn) (hspec : ∀ ck, s.vm.classes[cn]? = some ck → ck.isInterface = false → s.vm.lookupUp cn x.name x.desc = some r0 → lookupSpecial s.vm cn x.name x.desc = .method r0)
    {a : Addr} {cell : Cell} {kcell : Class} (hcell : T.heap[a]? = some cell) (hobj : ∀ c, cell.vm ≠ .statics c) (hkcell : s.vm.classes[cell.cls]? = some kcell)
    {g : JFrame} (hg : g.method = m) {argsL rest : List Value} (hlen : argsL.length = r.sig.parameters.length) (hstack : g.stack = argsL.reverse ++ .ref a :: rest)
    (hdg : decode c.code g.pc = .ok (.invokespecial index, 3)) :
    ∃ vm', Stand p l e R s m args below meth c (T.setVm vm') locs cells slots ∧
      ∀ target, Steps p.tables e below (doInvoke e ((T.setVm vm').setTop { g with stack := rest }) [] r0 (.ref a :: argsL).toArray).1 target → Steps p.tables e below (T.setTop g) target := by
  have hpl : e.platform.magicAccessors = ({} : Platform).magicAccessors := by rw [X.admits.platform]
  obtain ⟨cn', ck, r1, hcn', hck, hni, hf, hn1⟩ := Cond.sameMethod_found hsame
  cases hn.symm.trans hn1
  cases hcn.symm.trans hcn'
  obtain ⟨ci, hl, hright⟩ := Cond.methodLink_specUp hown hcn hck hni hf hlink e.platform hpl (by rw [X.admits.platform])
  obtain ⟨kr, hkr, -⟩ := className_of_methodNamed hn
  obtain ⟨hrn, hrd⟩ := name_of_methodNamed hn hrm
  obtain ⟨dk₀, cfile, nt, _, _, ck₀, _, _, hd₀, hcf, hcp, -, -, -, hc₀, -, hpoly, -⟩ := hl.here
  cases hd.symm.trans hd₀
  cases hck.symm.trans hc₀
  have hup : s.vm.lookupUp cn x.name x.desc = some r0 := ((State.methodFound?_class hcn hck hni hpoly r0).mp hf).1
  have hfound0 := hspec ck hck hni hup
  subst hg
  obtain ⟨vm', hW', st⟩ := Steps.invokeSuperColdArgs (tb := p.tables) (e := e) (s₀ := s) (U := T) (f := g) (args := argsL) (rest := rest) (a := a) (cell := cell) (m := r0) X.here hexec hdg X.warmed hl hright hd hcf hcp hrm hck
    (by rw [hrn]; simp [hnoinit]) hstatic (by rw [hrn, hrd, hsuper]; simpa using hfound0) hnid hkr habs hlen hstack hcell hobj hkcell
  exact ⟨vm', X.noted hW', st⟩
end
