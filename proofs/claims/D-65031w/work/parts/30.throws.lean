/-! methods that throw -/
def frT (first : State) (o : Outcome) (t : State) (L : List Loc) (k n : Nat) : Prop := (∃ x, o = .threw x) ∧ first.WarmedH t.vm ∧ first.sameButNew ({ t with vm := first.vm } : State) L k n
def Qct (K : KC) (C : String) (M : AH) : Array Value → State → Outcome → State → Prop := fun _ _ o t =>
  ∃ x, o = .threw x ∧ (∃ M' : AH, hd K M' t.heap ∧ M'.1 = M.1) ∧ ∃ cell, t.heap[x]? = some cell ∧ cell.vm.isStatics = false ∧ t.vm.findClass C = some cell.cls
def MQT (below : List Frame) (K : KC) (C : String) (M : AH) (a : Array Value) (s : State) (mc ms : Nat) : State → Prop := fun t =>
  ∃ o, t.status = .running ∧ Ended t below o ∧ Qct K C M a s o t ∧ ∃ L, frT s o t L mc ms ∧ ∀ q ∈ L, kB K ≤ q.base
/-- the contract of a method that throws a C, and leaves what is known of the heap as it was -/
def St (l : Launch) (K : KC) (d : MD) (h mc ms : Nat) (av : List Value) (M : AH) (C : String) : Prop :=
  MetFree l d.1 (headSpec (Cond.code d.1 d.2.1 d.2.2.1 d.2.2.2 :: TBL) (rmh h mc ms)) (Pcs K av M) (fun _ _ _ _ _ => True) (fun a st o t => Qct K C M a st o t ∧ ∃ L, frT st o t L mc ms ∧ ∀ q ∈ L, kB K ≤ q.base)
def QRT (X : CT) (C : String) (M : AH) (mc ms : Nat) : Prop := X.Q = MQT X.below X.K C M X.args X.s mc ms
theorem St.ofG {l : Launch} {K : KC} {d : MD} {h mc ms : Nat} {av : List Value} {M : AH} {C : String} (own : String) (hown : d.1.cls = own) (hy : plainName d.1.cls = true) (L0 : List (Option Value)) (hL : lp 0 L0 = lv_args 0 av) (hlen : (lg_sl av).length ≤ d.2.2.1)
    (body : ∀ X : CT, X.l = l → X.K = K → (∀ k, Nat.blt k d.2.2.1 = true → k < X.nL) → X.R = rmh h mc ms → Cx X own d.2.1 d.2.2.2 d.1.name false → QRT X C M mc ms → G X 0 0 M 0 L0 []) : St l K d h mc ms av M C := by
  refine MetFree.of_bodyS (code := d.2.1) (maxLocals := d.2.2.1) (ret := d.2.2.2) hy ?_ ?_
  · intro args s m h hn
    obtain ⟨meth, c, h1, h2, h3, h4, h5, h6, -, -⟩ := Cond.code_spec hn (atoms_spec (ws := Cond.code d.1 d.2.1 d.2.2.1 d.2.2.2 :: TBL) h _ List.mem_cons_self)
    exact ⟨meth, c, h1, h2, h3, h4, h5, h6⟩
  · intro p e s m args below meth c s₁ B hml hv _
    have hh0 : s₁.heap = s.heap := by rw [B.state]; rfl
    obtain ⟨hav, hK, hM⟩ := hv
    have hts : ∀ w ∈ Cond.code d.1 d.2.1 d.2.2.1 d.2.2.2 :: TBL, w.before args s = true := atoms_spec B.pre
    have hbs : kB K ≤ s.heap.size := by rw [hM.1]; exact hM.2.1
    have hnn := name_of_methodNamed B.named B.method
    have hC : Cx ((p, l, e, rmh h mc ms, s), (m, args, below, meth, c), (K, d.2.2.1, MQT below K C M args s mc ms)) own d.2.1 d.2.2.2 d.1.name false :=
      ⟨B.exec, B.bytes, hml, by rw [← hown]; exact findClass_of_methodNamed B.named, fun w hw => hts w (List.mem_cons_of_mem _ hw), hK, B.notSynchronized, B.returns, hnn.1, hbs, fun _ => B.noHandlers (hts _ List.mem_cons_self)⟩
    have key := body ((p, l, e, rmh h mc ms, s), (m, args, below, meth, c), (K, d.2.2.1, MQT below K C M args s mc ms)) rfl rfl (fun k hk => Nat.le_of_ble_eq_true hk) rfl hC rfl
    have hl := lv_entry av (n := d.2.2.1) hlen
    subst hav
    have hW := key s.heap [] _ hM (fun x hx => by cases hx) (by unfold lo; rw [hL]; exact hl)
    rw [← lg_entry_eq] at hW
    obtain ⟨t, a1, o, b1, b2, b3⟩ := hW s₁ hh0 (Stand.of_body B)
    exact ⟨t, o, a1, b1, b2, b3⟩
theorem same0 {s t : State} {k n : Nat} (h : s.sameButNew t [] k n) {q : Nat} (hq : q < s.heap.size) : t.heap[q]? = s.heap[q]? := by
  obtain ⟨-, -, -, -, -, h6⟩ := h
  have hc : s.heap[q]? = some s.heap[q] := Array.getElem?_eq_getElem hq
  obtain ⟨c', e1, e2, e3, e4⟩ := h6 q _ hc
  rw [e1, hc]
  have : c'.slots = s.heap[q].slots := by
    apply Array.ext_getElem?
    intro i
    exact e4 i (by simp)
  rw [e2, this]
/-- the walk's start may be taken anew -/
theorem rebase {p : Program} {l : Launch} {e : Env} {R : Room} {s : State} {m : MethodId} {args : Array Value} {below : List Frame} {meth : Method} {c : Code} {T : State} {locs : List Loc} {cells slots : Nat} (X : Stand p l e R s m args below meth c T locs cells slots) {k n : Nat} (h1 : cells + k ≤ R.cells) (h2 : slots + n ≤ R.slots) :
    Stand p l e { frames := R.frames, cells := k, slots := n, locals := R.locals } ({ s with heap := T.heap, slotsUsed := T.slotsUsed } : State) m args below meth c T [] 0 0 := by
  have hr := X.room
  have hz := X.heapSize
  have hu := X.used
  have hb := X.book
  refine ⟨X.admits, X.cas, X.clock, X.frames, ?_, X.hears, X.method, X.code, X.here, X.tail, X.warmed, X.limits, X.bytes, ?_⟩
  · unfold State.hasRoom at hr ⊢
    simp only [Bool.and_eq_true, decide_eq_true_eq] at hr ⊢
    obtain ⟨⟨⟨⟨r1, r2⟩, r3⟩, r4⟩, r5⟩ := hr
    exact ⟨⟨⟨⟨r1, r2⟩, by show T.heap.size + k ≤ _; omega⟩, by show T.slotsUsed + n ≤ _; omega⟩, hb⟩
  · have h0 := X.same.1
    refine ⟨?_, Nat.le_refl _, Nat.le_refl _, ?_, ?_, ?_⟩
    · exact h0
    · show T.slotsUsed = T.slotsUsed + ((T.heap.toList.drop T.heap.size).map (·.slots.size)).sum
      rw [List.drop_eq_nil_of_le (by simp)]
      simp
    · show ((T.heap.toList.drop T.heap.size).map (·.slots.size)).sum ≤ 0
      rw [List.drop_eq_nil_of_le (by simp)]
      simp
    · intro a cell ha
      exact ⟨cell, ha, rfl, rfl, fun _ _ => rfl⟩
theorem rebase_same {p : Program} {l : Launch} {e : Env} {R : Room} {s : State} {m : MethodId} {args : Array Value} {below : List Frame} {meth : Method} {c : Code} {T t : State} {locs : List Loc} {cells slots : Nat} (X : Stand p l e R s m args below meth c T locs cells slots) {k n : Nat} (h : ({ s with heap := T.heap, slotsUsed := T.slotsUsed } : State).sameButNew ({ t with vm := s.vm } : State) [] k n) :
    s.sameButNew ({ t with vm := s.vm } : State) (locs ++ []) (cells + k) (slots + n) := by
  refine X.same.trans ?_
  obtain ⟨h1, h2, h3, h4, h5, h6⟩ := h
  refine ⟨?_, h2, h3, h4, h5, h6⟩
  have h0 := X.same.1
  rw [h0]
  have e : ∀ (u : State) (f g : List Frame) (H : Heap) (n : Nat), ({ u.setFrames f with heap := H, slotsUsed := n } : State).setFrames g = ({ u.setFrames g with heap := H, slotsUsed := n } : State) := by
    intro u f g H n
    have := State.setFrames_setFrames u f g
    show ({ (u.setFrames f).setFrames g with heap := H, slotsUsed := n } : State) = _
    rw [this]
  rw [e]
  exact h1
def stW1 : Cond := .isRef (.static "java/lang/Throwable" "UNASSIGNED_STACK" "[Ljava/lang/StackTraceElement;")
def stW2 : Cond := .isRef (.static "java/lang/Throwable" "SUPPRESSED_SENTINEL" "Ljava/util/List;")
def stW3 : Cond := .laysStatic "java/lang/Throwable" "UNASSIGNED_STACK" "[Ljava/lang/StackTraceElement;"
def stW4 : Cond := .laysStatic "java/lang/Throwable" "SUPPRESSED_SENTINEL" "Ljava/util/List;"
def exA (own : String) (ic : Nat) (C : String) : Prop := ∀ a ∈ Bundle.ownAtoms0 own ic C ["java/lang/RuntimeException", "java/lang/Exception"], a ∈ TBL ∨ a = stW1 ∨ a = stW2 ∨ a = stW3 ∨ a = stW4
theorem ex_IaE : exA R_Comp 35 R_IaE := by unfold exA; decide +kernel
theorem ex_IoE : exA R_Comp 38 R_IoE := by unfold exA; decide +kernel
theorem ex_ArE : exA R_Comp 84 R_ArE := by unfold exA; decide +kernel

theorem callT {p : Program} {l : Launch} {e : Env} {R : Room} {s : State} {m : MethodId} {args : Array Value} {below : List Frame} {meth : Method} {c : Code} {T : State} {locs : List Loc} {cells slots : Nat} (X : Stand p l e R s m args below meth c T locs cells slots)
    {K : KC} {d : MD} {h mc ms : Nat} {av : List Value} {M : AH} {C : String} (hM : St l K d h mc ms av M C) {g : JFrame} (hg : g.method = m) (hsize : g.locals.size = c.maxLocals) {ig : Instr} {len : Nat} (hdg : decode c.code g.pc = .ok (ig, len)) (hW : 2 * g.monitorRoom + (g.stack.map fun v => v.category).sum ≤ 8)
    {mk : MethodId} (hn : T.methodNamed? d.1 = some mk) {a : Array Value} (hP : Pcs K av M a T) (hf : h + 1 ≤ R.frames) (hl : 8 + (d.2.2.1 + 11) + 60 * h ≤ R.locals) (hc : cells + mc ≤ R.cells) (hs : slots + ms ≤ R.slots)
    (hws : ∀ w ∈ Cond.code d.1 d.2.1 d.2.2.1 d.2.2.2 :: TBL, w.before a T = true) (hinit : (Cond.initialized d.1.cls).before a T = true) :
    ∃ (x : Addr) (T' : State) (L : List Loc), Stand p l e R s m args below meth c T' (locs ++ L) (cells + mc) (slots + ms) ∧ (∀ q ∈ L, kB K ≤ q.base) ∧ (∃ M' : AH, hd K M' T'.heap ∧ M'.1 = M.1) ∧ (∃ cell, T'.heap[x]? = some cell ∧ cell.vm.isStatics = false ∧ T'.vm.findClass C = some cell.cls) ∧
      Steps p.tables e below (doInvoke e (T.setTop g) [] mk a).1 ((T'.setTop g).pushFrame (.throwing x)) := by
  obtain ⟨methY, cY, hmY, hcY, -, hlY, -, -, -, -⟩ := Cond.code_spec hn (hws _ List.mem_cons_self)
  obtain ⟨kY, hkY, -⟩ := className_of_methodNamed hn
  have hinitY : kY.init = .initialized := Cond.initialized_spec (findClass_of_methodNamed hn) hkY hinit
  have hA : At T g.method c below := by rw [hg]; exact X.here
  have happ : (headSpec (Cond.code d.1 d.2.1 d.2.2.1 d.2.2.2 :: TBL) (rmh h mc ms)).appliesLoose d.1 e.platform (T.calling g mk a) = true :=
    Spec.appliesLoose_calling (g := g) hA hdg hn hkY hinitY
      (X.room_calling (g := g) (R' := rmh h mc ms) hsize hmY hcY hf (by rw [hlY]; show _ + 60 * h ≤ _; omega) hc hs) (atoms_intro hws)
  have hfr : (T.setTop g).frames = [.java g] ++ below := by rw [State.frames_setTop' g hA.top, X.tail]; rfl
  obtain ⟨o, s₂, hsteps, -, hend, hq⟩ := Steps.callFree hM p X.admits X.cas X.clock (acts := []) hfr happ (Pcs.blind a T g mk hP) trivial
  rw [hfr] at hend
  obtain ⟨⟨x, rfl, hMM, hcell⟩, L, ⟨-, hW2, hsame⟩, hL⟩ := hq
  obtain ⟨T', X', -, -, ht⟩ := X.outOfThrown hg (mk := mk) (a := a) hend hW2 hsame
  have eh : s₂.heap = T'.heap := by rw [ht]; exact Stand.throwing_heap T' g x
  have ev : s₂.vm = T'.vm := by rw [ht]; exact Stand.throwing_vm T' g x
  rw [eh] at hMM hcell
  rw [ev] at hcell
  exact ⟨x, T', L, X', hL, hMM, hcell, by rw [← ht]; exact hsteps⟩
