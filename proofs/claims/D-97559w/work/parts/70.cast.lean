/-! ps_: a cast that fails -/
set_option maxRecDepth 100000
theorem ps_fcf {vm : Vm} {name : String} {c : ClassId} {k : Class} (h : vm.findClass name = some c) (hk : vm.classes[c]? = some k) : k.name = name ∧ k.hidden = none ∧ k.loader = none := by
  obtain ⟨hlt, hp, _⟩ := Array.findIdx?_eq_some_iff_getElem.mp h
  have : vm.classes[c] = k := by have := hk; simp [hlt] at this; exact this
  rw [this] at hp
  simp only [Bool.and_eq_true, beq_iff_eq, Option.isNone_iff_eq_none] at hp
  exact ⟨hp.1.1.1, hp.1.1.2, hp.2⟩
def ps_Zo (E : ps_E) : Prop := ∀ U : State, E.2.2.2 U → modulesRight_1 U = true
theorem ps_mod_alike {u v : Vm} (h : u.Alike v) : v.modules = u.modules := by rw [h.1]
theorem ps_home {vm : Vm} (hm : (vm.modules.all fun m => m.loader.isSome || m.name == "java.base" || !(castPackages_1.any fun p => m.packages.contains p)) = true) {k : Class} (hk : k.kind = .ordinary) (hl : k.loader = none) (hp : packageOf k.name = "") : (vm.home k).toList.length ≤ 40 := by
  have e1 : vm.moduleOf k = vm.modules.find? fun m => m.loader == none && m.packages.contains "" := by simp [Vm.moduleOf, Class.ofPrimitives, hk, hl, hp]
  unfold Vm.home
  rw [e1, hl]
  cases h : vm.modules.find? fun m => m.loader == none && m.packages.contains "" with
  | none =>
    show ("unnamed module" ++ " of loader " ++ "'bootstrap'").toList.length ≤ 40
    decide
  | some m =>
    have h1 := List.find?_some h
    have h2 := List.mem_of_find?_eq_some h
    have h3 := List.all_eq_true.mp hm m h2
    simp only [Bool.and_eq_true, beq_iff_eq] at h1
    have e2 : m.name = "java.base" := by
      have hc9 : castPackages_1.any (fun p => m.packages.contains p) = true := by
        rw [List.any_eq_true]; exact ⟨"", by decide, h1.2⟩
      simp only [h1.1, hc9, Option.isSome_none, Bool.false_or, Bool.not_true, Bool.or_false, beq_iff_eq] at h3
      exact h3
    show (("module " ++ m.name) ++ " of loader " ++ "'bootstrap'").toList.length ≤ 40
    rw [e2]
    decide
theorem ps_msg {vm : Vm} {k1 k2 : Class} (h1 : k1.shown.toList.length ≤ 20) (h2 : k2.shown.toList.length ≤ 20) (g1 : (vm.home k1).toList.length ≤ 40) (g2 : (vm.home k2).toList.length ≤ 40) : (checkcast.message vm k1 k2).toList.length ≤ 240 := by
  have hh : (vm.homes k1 k2).toList.length ≤ 140 := by
    unfold Vm.homes
    split
    · show (toString k1.shown ++ toString " and " ++ toString k2.shown ++ toString " are in " ++ toString (vm.home k1)).toList.length ≤ 140
      simp only [String.toList_append, List.length_append]
      have a1 : (toString " and ").toList.length = 5 := by decide
      have a2 : (toString " are in ").toList.length = 8 := by decide
      have b1 : (toString k1.shown).toList.length ≤ 20 := h1
      have b2 : (toString k2.shown).toList.length ≤ 20 := h2
      have b3 : (toString (vm.home k1)).toList.length ≤ 40 := g1
      omega
    · show (toString k1.shown ++ toString " is in " ++ toString (vm.home k1) ++ toString "; " ++ toString k2.shown ++ toString " is in " ++ toString (vm.home k2)).toList.length ≤ 140
      simp only [String.toList_append, List.length_append]
      have a1 : (toString " is in ").toList.length = 7 := by decide
      have a2 : (toString "; ").toList.length = 2 := by decide
      have b1 : (toString k1.shown).toList.length ≤ 20 := h1
      have b2 : (toString k2.shown).toList.length ≤ 20 := h2
      have b3 : (toString (vm.home k1)).toList.length ≤ 40 := g1
      have b4 : (toString (vm.home k2)).toList.length ≤ 40 := g2
      omega
  show (toString "class " ++ toString k1.shown ++ toString " cannot be cast to class " ++ toString k2.shown ++ toString " (" ++ toString (vm.homes k1 k2) ++ toString ")").toList.length ≤ 240
  simp only [String.toList_append, List.length_append]
  have a1 : (toString "class ").toList.length = 6 := by decide
  have a2 : (toString " cannot be cast to class ").toList.length = 25 := by decide
  have a3 : (toString " (").toList.length = 2 := by decide
  have a4 : (toString ")").toList.length = 1 := by decide
  have b1 : (toString k1.shown).toList.length ≤ 20 := h1
  have b2 : (toString k2.shown).toList.length ≤ 20 := h2
  have b3 : (toString (vm.homes k1 k2)).toList.length ≤ 140 := hh
  omega
theorem ps_msgB {t : String} (h : t.toList.length ≤ 240) : (stringBytes (stringToUtf16 t)).size ≤ 960 := by
  have b1 := stringBytes_size_le (stringToUtf16 t)
  have b2 := utf16_size_le t
  omega
theorem ps_msgM (vm : Vm) (k1 k2 : Class) : (checkcast.message vm k1 k2 == notModelled) = false := by
  rw [beq_eq_false_iff_ne]
  intro h
  have h2 := congrArg String.toList h
  have h3 : (checkcast.message vm k1 k2).toList = 'c' :: ("lass ".toList ++ k1.shown.toList ++ " cannot be cast to class ".toList ++ k2.shown.toList ++ " (".toList ++ (vm.homes k1 k2).toList ++ ")".toList) := by
    show (toString "class " ++ toString k1.shown ++ toString " cannot be cast to class " ++ toString k2.shown ++ toString " (" ++ toString (vm.homes k1 k2) ++ toString ")").toList = _
    simp only [String.toList_append]
    rfl
  rw [h3] at h2
  have h4 : notModelled.toList = '\u0000' :: " a message that is not modelled".toList := by decide
  rw [h4] at h2
  simp at h2

section PSCZ
variable {p : Program} {l : Launch} {e : Env} {R : Room} {s : State} {m : MethodId} {args : Array Value} {below : List Frame} {meth : Method} {c : Code} {H : Heap} {locs : List Loc} {cells slots : Nat} {Q : State → Prop}
variable {E : ps_E} {cc : ByteArray} {nL : Nat} {ret : Option FieldType} {own nm mm nn : String} {H0 : Heap} {pc idx a : Nat} {ls : Array Slot} {rest : List Value} {z : Nat}
theorem ps_castThrow {T : State} (X : Stand p l e R s m args below meth c T locs cells slots) (hexec : p.tables.exec = Jvm.exec) (hown : s.vm.findClass own = some m.cls) (hlink : (Cond.classLink own idx nn).before args s = true) {cell : Cell} {cT : ClassId} {ks kt : Class} (hcell : T.heap[a]? = some cell) (hobj : ∀ k, cell.vm ≠ .statics k) (hks : s.vm.classes[cell.cls]? = some ks) (hcT : s.vm.findClass nn = some cT) (hkt : s.vm.classes[cT]? = some kt) (hasg : s.vm.assignable cell.cls cT = false)
    {g : JFrame} (hg : g.method = m) (hstack : g.stack = .ref a :: rest) (hdg : decode c.code g.pc = .ok (.checkcast idx, 3)) :
    ∃ (vm' : Vm) (ks' kt' : Class), Stand p l e R s m args below meth c (T.setVm vm') locs cells slots ∧ s.vm.Alike vm' ∧ ks'.bare = ks.bare ∧ kt'.bare = kt.bare ∧
      ∀ target, Steps p.tables e below (((T.setVm vm').setTop g).pushFrame (.throwNew ps_nC (some (checkcast.message vm' ks' kt')) none)) target → Steps p.tables e below (T.setTop g) target := by
  have hpl : e.platform.magicAccessors = ({} : Platform).magicAccessors := by rw [X.admits.platform]
  obtain ⟨c', hc', hcl⟩ := Cond.classLink_spec hown hlink e.platform hpl
  cases hcT.symm.trans hc'
  obtain ⟨dk, _, _, kt0, hd, _, _, _, _, hkt0, _, hopen⟩ := hcl.here
  have hcl₀ := X.warmed.classLinks hcl
  have hW' : s.WarmedH (T.vm.noted m.cls idx (.cls cT)) := X.warmed.noted hd hopen (State.rightAt_cls hcl)
  obtain ⟨ks', hks', es⟩ := hW'.alike.2.2 _ _ hks
  obtain ⟨kt', hkt', et⟩ := hW'.alike.2.2 _ _ hkt
  refine ⟨_, ks', kt', X.noted hW', hW'.alike, Class.bare_of es, Class.bare_of et, fun target hrest => ?_⟩
  subst hg
  jvm_step X.here [hexec, hdg, checkcast.wp_cold (e := e) (s := T) (f := g) X.here.top hstack (resolveClass_links e.toSetting hcl₀) hcl₀.ready,
    checkcast.wp_ready (e := e) (s := T.setVm (T.vm.noted g.method.cls idx (.cls cT))) (f := g) X.here.top hcl₀.ready hstack]
  refine ⟨cell, hcell, hobj, ks', hks', kt', hkt', ?_⟩
  rw [if_neg (by show ¬ (T.vm.noted g.method.cls idx (.cls cT)).assignable cell.cls cT = true; rw [hW'.alike.assignable, hasg]; decide)]
  exact hrest
theorem ps_castZ {c1 c2 : ClassId} (X : ps_X p E s m args meth c cc nL ret own H0 nm) (hZ : ps_Zk E z) (hX : ps_Zx E) (hO : ps_Zo E) (hLT : l.stackTraces = false) (hlink : Cond.classLink own idx nn ∈ lw_all) (h1 : ClassAt s mm c1) (h2 : ClassAt s nn c2) (hn1 : packageOf mm = "" ∧ (dotted mm).toList.length ≤ 20) (hn2 : packageOf nn = "" ∧ (dotted nn).toList.length ≤ 20) (hr : ps_recv s H a mm) (hnc : (mm, nn) ∈ ps_ncs)
    (hS : va_S (ps_A E) s.heap H locs) (hl : ls.size = nL) (hR : (8 ≤ R.frames ∧ 10260 ≤ R.locals) ∧ cells + 3 ≤ R.cells ∧ slots + 970 ≤ R.slots) (hcat : ((.ref a :: rest : List Value).map fun v => v.category).sum ≤ 8) (hdg : decode cc pc = .ok (.checkcast idx, 3))
    (k : ps_kM p l e R s m args below meth c H locs (cells + 3) (slots + 970) Q E pc ls (.ref a :: rest) ps_nC) : W p l e R s m args below meth c H locs cells slots Q (F0 m pc ls (.ref a :: rest)) := by
  have X0 := X
  obtain ⟨hx, hb, hml, ho, hts, hlk, hr2, hK, hh, hnm⟩ := X
  obtain ⟨cell, hc, hcs, hcc⟩ := hr
  obtain ⟨f1, k1, g1, d1⟩ := h1
  obtain ⟨f2, k2, g2, d2⟩ := h2
  cases f1.symm.trans hcc
  obtain ⟨a8, b8, q1, q2, q3⟩ := (hX s hK.2).1 _ hnc
  cases q1.symm.trans hcc
  cases q2.symm.trans f2
  have hmod : (s.vm.modules.all fun m => m.loader.isSome || m.name == "java.base" || !(castPackages_1.any fun p => m.packages.contains p)) = true := hO s hK.2
  intro T hT Y
  obtain ⟨vm', ks', kt', Y1, hal, es, et, st⟩ := ps_castThrow Y hx ho (hts _ hlink) (a := a) (cell := cell) (by rw [hT]; exact hc) (fun z9 h9 => by rw [h9] at hcs; cases hcs) g1 f2 g2 q3 (g := F0 m pc ls (.ref a :: rest)) rfl rfl (by rw [hb]; exact hdg)
  obtain ⟨n1, i1, l1⟩ := ps_fcf f1 g1
  obtain ⟨n2, i2, l2⟩ := ps_fcf f2 g2
  have kf : ∀ {u v : Class}, u.bare = v.bare → u.kind = v.kind ∧ u.loader = v.loader ∧ u.name = v.name ∧ u.hidden = v.hidden := fun {u v} h => ⟨(show u.bare.kind = v.bare.kind from congrArg Class.kind h), (show u.bare.loader = v.bare.loader from congrArg Class.loader h), (show u.bare.name = v.bare.name from congrArg Class.name h), (show u.bare.hidden = v.bare.hidden from congrArg Class.hidden h)⟩
  obtain ⟨a1, a2, a3, a4⟩ := kf es
  obtain ⟨b1, b2, b3, b4⟩ := kf et
  have hm' : (vm'.modules.all fun m => m.loader.isSome || m.name == "java.base" || !(castPackages_1.any fun p => m.packages.contains p)) = true := by rw [ps_mod_alike hal]; exact hmod
  have s1 : ks'.shown.toList.length ≤ 20 := by
    unfold Class.shown; rw [a4, i1, a3, n1]; exact hn1.2
  have s2 : kt'.shown.toList.length ≤ 20 := by
    unfold Class.shown; rw [b4, i2, b3, n2]; exact hn2.2
  have hl1 := ps_msg s1 s2 (ps_home hm' (a1.trans d1) (a2.trans l1) (by rw [a3, n1]; exact hn1.1)) (ps_home hm' (b1.trans d2) (b2.trans l2) (by rw [b3, n2]; exact hn2.1))
  obtain ⟨t, a9, b9⟩ := ps_vm (names := ps_uR) (nb := 960) X0 hZ hX hLT ps_aC ps_oC (by decide) (by decide) (by decide) (ps_msgM vm' ks' kt') (ps_msgB hl1) (by decide) hS hl (by decide) hR hcat k (T.setVm vm') hT Y1
  exact ⟨t, st t a9, b9⟩
end PSCZ
