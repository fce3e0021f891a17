/-! rows that throw -/
section GTH
variable {X : CT} {cs sl : Nat} {M : AH} {pc : Nat} {L : List (Option Value)} {own : String} {cc : ByteArray} {rt : Option FieldType} {nm : String} {hh : Bool} {C : String} {M0 : AH} {mc ms h0 : Nat}
theorem nt_of (hC : Cx X own cc rt nm false) : ∀ x ∈ X.c.exceptionTable.toList, ∀ pc, covers x pc = false := by
  have h := hC.2.2.2.2.2.2.2.2.2.2 rfl
  intro x hx
  rw [Array.isEmpty_iff.mp h] at hx
  simp at hx
theorem throw0 {p : Program} {l : Launch} {e : Env} {R : Room} {s : State} {m : MethodId} {args : Array Value} {below : List Frame} {meth : Method} {c : Code} {H : Heap} {ls : Array Slot} (hexec : p.tables.exec = Jvm.exec) (htr : l.stackTraces = false) (hb : c.code = cc) (hown : s.vm.findClass own = some m.cls) (hts : ∀ w ∈ TBL, w.before args s = true) (hst : stW1.before args s = true ∧ stW2.before args s = true ∧ stW3.before args s = true ∧ stW4.before args s = true)
    {ic idx p1 p2 p3 p4 z : Nat} (hcl : Cond.classLink own idx C ∈ TBL) (hins : Cond.instantiable C 6 ∈ TBL) (hini : Cond.initialized C ∈ TBL) (hat : exA own ic C) (hfit : Bundle.fit C = true) (r1 : 1 ≤ R.cells) (r2 : 6 ≤ R.slots) (r3 : 6 ≤ R.frames) (r4 : 81 ≤ R.locals)
    (d1 : dn cc pc (.new idx) 3 p1) (d2 : dn cc p1 .dup 1 p2) (d3 : dn cc p2 (.invokespecial ic) 3 p3) (d4 : dn cc p3 .athrow 1 p4) (hsz : ls.size = c.maxLocals) (hnt : ∀ x ∈ c.exceptionTable.toList, ∀ pc, covers x pc = false) (hlk : meth.locks = false) (hz : H.size = z) (hle : s.heap.size ≤ z) :
    W p l e R s m args below meth c H [] 0 0 (fun t => t.status = .running ∧ Ended t below (.threw z) ∧ s.WarmedH t.vm ∧ s.sameButNew ({ t with vm := s.vm } : State) [] 1 6 ∧ ∃ ce, t.heap[z]? = some ce ∧ Bundle.OwnCell args s C z .null ce) (F0 m pc ls []) := by
  obtain ⟨d1, rfl⟩ := d1
  obtain ⟨d2, rfl⟩ := d2
  obtain ⟨d3, rfl⟩ := d3
  obtain ⟨d4, -⟩ := d4
  obtain ⟨cC, kC0, hfc, hkC0, -⟩ := Cond.instantiable_spec (hts _ hins)
  refine W.newcK hexec hb hown (hts _ hcl) (hts _ hins) (hts _ hini) rfl d1 (by omega) (by omega) hfc hz fun H1 kC hkC e1 z1 o1 => ?_
  refine lv_dup hexec hb d2 rfl ?_
  intro T2 hT2 X2
  obtain ⟨U, u1, u2, u3, u4, u5, u6⟩ := X2.ctorThrow0 (names := ["java/lang/RuntimeException", "java/lang/Exception"]) hexec (by rw [X2.admits.platform]; exact htr) hown hfit (by decide)
    (fun a ha => by
      rcases hat a ha with h | rfl | rfl | rfl | rfl
      · exact hts a h
      · exact hst.1
      · exact hst.2.1
      · exact hst.2.2.1
      · exact hst.2.2.2) (fun x hx => by cases hx) hfc hkC (by rw [hT2]; exact e1) hle
    (g := F0 m (pc + 3 + 1) ls [.ref z, .ref z]) rfl hsz rfl rfl (rest := []) rfl (by rw [hb]; exact d3) (by rw [hb]; exact d4) (fun x hx => hnt x hx _)
    (by show 2 + 3 < R.frames; omega) (by show 0 + 1 + (13 * (2 + 1) + 41) ≤ R.locals; omega) (hlocks := hlk)
  exact ⟨U, u1, u2, u3, u4, u5, u6⟩
theorem g_throw (hC : Cx X own cc rt nm false) (htr : X.l.stackTraces = false) (hQ : QRT X C M0 mc ms) (hM : M.1 = M0.1) {ic idx p1 p2 p3 p4 : Nat} (hcl : Cond.classLink own idx C ∈ TBL) (hins : Cond.instantiable C 6 ∈ TBL) (hini : Cond.initialized C ∈ TBL) (hat : exA own ic C) (hfit : Bundle.fit C = true) (hR : X.R = rmh h0 mc ms) (hh0 : 6 ≤ h0) (h1 : cs + 1 ≤ mc) (h2 : sl + 6 ≤ ms)
    (d1 : dn cc pc (.new idx) 3 p1) (d2 : dn cc p1 .dup 1 p2) (d3 : dn cc p2 (.invokespecial ic) 3 p3) (d4 : dn cc p3 .athrow 1 p4) : G X cs sl M pc L [] := by
  intro H locs ls hH hlo hL T hT XX
  have XR := rebase XX (k := 1) (n := 6) (by rw [hR]; exact h1) (by rw [hR]; exact h2)
  have hs' : ∀ w ∈ TBL, w.before X.args ({ X.s with heap := T.heap, slotsUsed := T.slotsUsed } : State) = true := fun w hw => warm_all (hts_of hC) w hw _ _ (State.WarmedH.refl X.s)
  have hst := (ok_of hC).2.2.1 ({ X.s with heap := T.heap, slotsUsed := T.slotsUsed } : State) (Vm.Alike.refl _) (by show ∀ q, q < _ → T.heap[q]? = _; rw [hT]; exact hH.2.2.1) (by show _ ≤ T.heap.size; rw [hT, hH.1]; exact hH.2.1) X.args
  have hown' : ({ X.s with heap := T.heap, slotsUsed := T.slotsUsed } : State).vm.findClass own = some X.m.cls := own_of hC
  have hsz0 : ({ X.s with heap := T.heap, slotsUsed := T.slotsUsed } : State).heap.size = M.2 := by show T.heap.size = _; rw [hT, hH.1]
  have key := throw0 (p := X.p) (l := X.l) (e := X.e) (m := X.m) (args := X.args) (below := X.below) (meth := X.meth) (c := X.c) (R := { frames := X.R.frames, cells := 1, slots := 6, locals := X.R.locals }) (s := ({ X.s with heap := T.heap, slotsUsed := T.slotsUsed } : State)) hC.1 htr hC.2.1 hown' hs' hst hcl hins hini hat hfit (Nat.le_refl 1) (Nat.le_refl 6) (by show 6 ≤ X.R.frames; rw [hR]; exact hh0) (by show 81 ≤ X.R.locals; rw [hR]; show _ ≤ 60 * h0; omega) d1 d2 d3 d4 (by rw [ml_of hC]; exact hL.1) (nt_of hC) (lk_of hC) hH.1 (Nat.le_of_eq hsz0)
  obtain ⟨t, a1, b1, b2, b3, b4, ce, b5, b6⟩ := key T hT XR
  unfold QRT at hQ
  rw [hQ]
  have hsz : ({ X.s with heap := T.heap, slotsUsed := T.slotsUsed } : State).heap.size = M.2 := by show T.heap.size = _; rw [hT, hH.1]
  have hle : M.2 ≤ t.heap.size := by have := b4.2.1; rw [hsz] at this; exact this
  have heq : ∀ q, q < M.2 → t.heap[q]? = H[q]? := fun q hq => by
    have h9 := same0 b4 (q := q) (by rw [hsz]; exact hq)
    have h10 : t.heap[q]? = T.heap[q]? := h9
    rw [h10, hT]
  refine ⟨t, a1, .threw M.2, b1, b2, ⟨M.2, rfl, ⟨(M.1, t.heap.size), ⟨rfl, Nat.le_trans hH.2.1 hle, fun q hq => ?_, fun q x hx => ?_⟩, hM⟩, ce, b5, ?_, ?_⟩, locs ++ [], ⟨⟨_, rfl⟩, b3, ?_⟩, fun q hq => hlo q (by rw [List.append_nil] at hq; exact hq)⟩
  · have := hH.2.1
    rw [heq q (by omega)]
    exact hH.2.2.1 q hq
  · obtain ⟨g1, g2, g3⟩ := hH.2.2.2 q x hx
    exact ⟨Nat.lt_of_lt_of_le g1 hle, g2, g3.kept (heq q g1)⟩
  · rw [b6.vm]; rfl
  · have := b3.alike.findClass (name := C)
    rw [this]
    exact b6.cls
  · exact (rebase_same XX b4).mono h1 h2
/-- what a call of a throwing method does to the walk -/
theorem runVT (hC : Cx X own cc rt nm hh) {d : MD} {idx n h' mc' ms' mc0 ms0 b ci : Nat} {fs As st st0 : List Value} (hsp : St X.l X.K d h' mc' ms' (.ref b :: As) M C) (hoc : okC d n) (hov : okV d) (hl : Cond.methodLink own idx d.1 ∈ TBL) (hb : M.1 b = some (oO ci fs)) (hci : classes[ci]?.map (·.1) = some d.1.cls) (hlen : As.length = n) (hst : st0 = As.reverse ++ .ref b :: st) (hR : X.R = rmh h0 mc0 ms0) (hh' : h' + 1 ≤ h0) (hm : d.2.2.1 ≤ 41) (hc : cs + mc' ≤ mc0) (hs : sl + ms' ≤ ms0) (hw : (st.map fun v => v.category).sum ≤ 8) (hdg : decode cc pc = .ok (.invokevirtual idx, 3))
    {H : Heap} {locs : List Loc} {ls : Array Slot} (hH : hd X.K M H) (hL : lo ls X.nL L) {T : State} (hT : T.heap = H) (XX : Stand X.p X.l X.e X.R X.s X.m X.args X.below X.meth X.c T locs cs sl) :
    ∃ (x : Addr) (T' : State) (Lo : List Loc), Stand X.p X.l X.e X.R X.s X.m X.args X.below X.meth X.c T' (locs ++ Lo) (cs + mc') (sl + ms') ∧ (∀ q ∈ Lo, kB X.K ≤ q.base) ∧ (∃ M' : AH, hd X.K M' T'.heap ∧ M'.1 = M.1) ∧ (∃ cell, T'.heap[x]? = some cell ∧ cell.vm.isStatics = false ∧ T'.vm.findClass C = some cell.cls) ∧
      Steps X.p.tables X.e X.below (T.setTop (F0 X.m pc ls st0)) ((T'.setTop (F0 X.m pc ls st)).pushFrame (.throwing x)) := by
  have hts := hts_of hC
  obtain ⟨mk, methM, hnamed, hmethM, hstM, habM⟩ := Cond.instanceMethod_spec (hts _ hov.1)
  obtain ⟨methM', cM, hmethM', -, -, -, -, -, -, hsigM⟩ := Cond.code_spec hnamed (hts _ hoc.1)
  cases hmethM.symm.trans hmethM'
  obtain ⟨c2, r2, m2, q1, q2, q3, q4, kP, hkP, hkPi⟩ := Cond.selects_spec (hts _ hov.2)
  obtain ⟨-, ⟨cellB, hcell, hobj, hcls⟩, hPc⟩ := pv_of (As := As) hC hb hci hH
  cases hcls.symm.trans q1
  cases (State.methodFound?_of_named hnamed hoc.2.2.1).symm.trans q2
  cases hnamed.symm.trans q3
  have hselP : selectMethod X.e.platform X.s.vm cellB.cls mk = .method mk := by rw [Launch.admits_selectMethod XX.admits]; exact q4
  have hlen' : ∀ sig, parseMethodDescriptor d.1.desc = some sig → As.length = sig.parameters.length := fun sig hs' => by
    have h2 := hoc.2.2.2
    rw [hs'] at h2
    rw [hlen]
    exact (Option.some.inj h2).symm
  obtain ⟨vm₁, X₁, hstep₁⟩ := XX.invokevirtual hC.1 (own_of hC) (hts _ hl) hnamed hmethM hstM hkP hkPi hoc.2.2.1 (a := b) (cell := cellB) (by rw [hT]; exact hcell)
    (fun z h => by rw [h] at hobj; cases hobj) hselP hmethM habM hkP hkPi (g := F0 X.m pc ls st0) rfl (argsL := As) (rest := st) (hlen' _ hsigM) hst (by rw [hC.2.1]; exact hdg)
  have hwa := warm_all hts
  obtain ⟨x, T', Lo, X', k1, k2, k3, k4⟩ := callT X₁ hsp (g := F0 X.m pc ls st) rfl (by rw [ml_of hC]; exact hL.1) (by rw [hC.2.1]; exact hdg) (rmw hw) (X₁.named hnamed) (hPc (T.setVm vm₁) hT X₁.warmed) (by rw [hR]; exact hh') (by rw [hR]; show _ ≤ 60 * h0; omega) (by rw [hR]; exact hc) (by rw [hR]; exact hs)
    (fun w hw' => by
      rcases List.mem_cons.mp hw' with rfl | h
      · exact hwa _ hoc.1 _ _ X₁.warmed
      · exact hwa w h _ _ X₁.warmed) (hwa _ hoc.2.1 _ _ X₁.warmed)
  exact ⟨x, T', Lo, X', k1, k2, k3, hstep₁ _ fun acts => by rw [doInvoke_state]; exact k4⟩
theorem runST (hC : Cx X own cc rt nm hh) {d : MD} {idx n h' mc' ms' mc0 ms0 : Nat} {As st st0 : List Value} (hsp : St X.l X.K d h' mc' ms' As M C) (hoc : okC d n) (hos : okS d) (hl : Cond.methodLink own idx d.1 ∈ TBL) (hlen : As.length = n) (hst : st0 = As.reverse ++ st) (hR : X.R = rmh h0 mc0 ms0) (hh' : h' + 1 ≤ h0) (hm : d.2.2.1 ≤ 41) (hc : cs + mc' ≤ mc0) (hs : sl + ms' ≤ ms0) (hw : (st.map fun v => v.category).sum ≤ 8) (hdg : decode cc pc = .ok (.invokestatic idx, 3))
    {H : Heap} {locs : List Loc} {ls : Array Slot} (hH : hd X.K M H) (hL : lo ls X.nL L) {T : State} (hT : T.heap = H) (XX : Stand X.p X.l X.e X.R X.s X.m X.args X.below X.meth X.c T locs cs sl) :
    ∃ (x : Addr) (T' : State) (Lo : List Loc), Stand X.p X.l X.e X.R X.s X.m X.args X.below X.meth X.c T' (locs ++ Lo) (cs + mc') (sl + ms') ∧ (∀ q ∈ Lo, kB X.K ≤ q.base) ∧ (∃ M' : AH, hd X.K M' T'.heap ∧ M'.1 = M.1) ∧ (∃ cell, T'.heap[x]? = some cell ∧ cell.vm.isStatics = false ∧ T'.vm.findClass C = some cell.cls) ∧
      Steps X.p.tables X.e X.below (T.setTop (F0 X.m pc ls st0)) ((T'.setTop (F0 X.m pc ls st)).pushFrame (.throwing x)) := by
  have hts := hts_of hC
  obtain ⟨mk, hnamed⟩ := Cond.code_named (hts _ hoc.1)
  obtain ⟨methM, cM, hmethM, -, -, -, -, -, -, hsigM⟩ := Cond.code_spec hnamed (hts _ hoc.1)
  have hstatic : methM.isStatic = true := Cond.static_spec hnamed hmethM (hts _ hos)
  obtain ⟨kP, hkP, -⟩ := className_of_methodNamed hnamed
  have hinitP : kP.init = .initialized := Cond.initialized_spec (findClass_of_methodNamed hnamed) hkP (hts _ hoc.2.1)
  obtain ⟨-, hPc⟩ := ps_of (As := As) hC hH
  have hlen' : ∀ sig, parseMethodDescriptor d.1.desc = some sig → As.length = sig.parameters.length := fun sig hs' => by
    have h2 := hoc.2.2.2
    rw [hs'] at h2
    rw [hlen]
    exact (Option.some.inj h2).symm
  obtain ⟨vm₁, X₁, hstep₁⟩ := XX.invokestatic hC.1 (own_of hC) (hts _ hl) hnamed hmethM hstatic hkP hinitP hoc.2.2.1 (g := F0 X.m pc ls st0) rfl (argsL := As) (rest := st) (hlen' _ hsigM) hst (by rw [hC.2.1]; exact hdg)
  have hwa := warm_all hts
  obtain ⟨x, T', Lo, X', k1, k2, k3, k4⟩ := callT X₁ hsp (g := F0 X.m pc ls st) rfl (by rw [ml_of hC]; exact hL.1) (by rw [hC.2.1]; exact hdg) (rmw hw) (X₁.named hnamed) (hPc (T.setVm vm₁) hT X₁.warmed) (by rw [hR]; exact hh') (by rw [hR]; show _ ≤ 60 * h0; omega) (by rw [hR]; exact hc) (by rw [hR]; exact hs)
    (fun w hw' => by
      rcases List.mem_cons.mp hw' with rfl | h
      · exact hwa _ hoc.1 _ _ X₁.warmed
      · exact hwa w h _ _ X₁.warmed) (hwa _ hoc.2.1 _ _ X₁.warmed)
  exact ⟨x, T', Lo, X', k1, k2, k3, hstep₁ _ fun acts => by rw [doInvoke_state]; exact k4⟩
/-- it is thrown on -/
theorem endT (hC : Cx X own cc rt nm false) (hQ : QRT X C M0 mc ms) (hM : M.1 = M0.1) {cs2 sl2 : Nat} (h1 : cs2 ≤ mc) (h2 : sl2 ≤ ms) {locs Lo : List Loc} (hlo : ∀ x ∈ locs, kB X.K ≤ x.base) (hlo2 : ∀ x ∈ Lo, kB X.K ≤ x.base) {T T' : State} {ls : Array Slot} {st st0 : List Value} {x : Addr} (X' : Stand X.p X.l X.e X.R X.s X.m X.args X.below X.meth X.c T' (locs ++ Lo) cs2 sl2)
    (hMM : ∃ M' : AH, hd X.K M' T'.heap ∧ M'.1 = M.1) (hcell : ∃ cell, T'.heap[x]? = some cell ∧ cell.vm.isStatics = false ∧ T'.vm.findClass C = some cell.cls) (hst : Steps X.p.tables X.e X.below (T.setTop (F0 X.m pc ls st0)) ((T'.setTop (F0 X.m pc ls st)).pushFrame (.throwing x))) :
    ∃ t, Steps X.p.tables X.e X.below (T.setTop (F0 X.m pc ls st0)) t ∧ X.Q t := by
  obtain ⟨k1, k2, k3, k4, k5⟩ := X'.leaveThrown x (g := F0 X.m pc ls st) rfl rfl rfl (fun y hy => nt_of hC y hy _) (lk_of hC)
  unfold QRT at hQ
  rw [hQ]
  obtain ⟨M', q1, q2⟩ := hMM
  refine ⟨_, hst.trans k1, .threw x, k2, k3, ⟨x, rfl, ⟨M', q1, q2.trans hM⟩, hcell⟩, locs ++ Lo, ⟨⟨_, rfl⟩, k4, k5.mono h1 h2⟩, fun q hq => ?_⟩
  rcases List.mem_append.mp hq with h | h
  · exact hlo q h
  · exact hlo2 q h
theorem g_callVT (hC : Cx X own cc rt nm false) (hQ : QRT X C M0 mc ms) (hM : M.1 = M0.1) {d : MD} {idx n h' mc' ms' b ci pc' : Nat} {fs As st st0 : List Value} (hsp : St X.l X.K d h' mc' ms' (.ref b :: As) M C) (hoc : okC d n) (hov : okV d) (hl : Cond.methodLink own idx d.1 ∈ TBL) (hb : M.1 b = some (oO ci fs)) (hci : classes[ci]?.map (·.1) = some d.1.cls) (hlen : As.length = n) (hst : st0 = As.reverse ++ .ref b :: st) (hR : X.R = rmh h0 mc ms) (hh' : h' + 1 ≤ h0) (hm : d.2.2.1 ≤ 41) (hc : cs + mc' ≤ mc) (hs : sl + ms' ≤ ms) (hw : (st.map fun v => v.category).sum ≤ 8) (hdg : dn cc pc (.invokevirtual idx) 3 pc') : G X cs sl M pc L st0 := by
  intro H locs ls hH hlo hL T hT XX
  obtain ⟨x, T', Lo, X', k1, k2, k3, k4⟩ := runVT hC hsp hoc hov hl hb hci hlen hst hR hh' hm hc hs hw hdg.1 hH hL hT XX
  exact endT hC hQ hM hc hs hlo k1 X' k2 k3 k4
theorem g_callST (hC : Cx X own cc rt nm false) (hQ : QRT X C M0 mc ms) (hM : M.1 = M0.1) {d : MD} {idx n h' mc' ms' pc' : Nat} {As st st0 : List Value} (hsp : St X.l X.K d h' mc' ms' As M C) (hoc : okC d n) (hos : okS d) (hl : Cond.methodLink own idx d.1 ∈ TBL) (hlen : As.length = n) (hst : st0 = As.reverse ++ st) (hR : X.R = rmh h0 mc ms) (hh' : h' + 1 ≤ h0) (hm : d.2.2.1 ≤ 41) (hc : cs + mc' ≤ mc) (hs : sl + ms' ≤ ms) (hw : (st.map fun v => v.category).sum ≤ 8) (hdg : dn cc pc (.invokestatic idx) 3 pc') : G X cs sl M pc L st0 := by
  intro H locs ls hH hlo hL T hT XX
  obtain ⟨x, T', Lo, X', k1, k2, k3, k4⟩ := runST hC hsp hoc hos hl hlen hst hR hh' hm hc hs hw hdg.1 hH hL hT XX
  exact endT hC hQ hM hc hs hlo k1 X' k2 k3 k4
end GTH
