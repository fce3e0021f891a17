/-! contracts (Sp), returns, calls -/
def rmh (h mc ms : Nat) : Room := { frames := h, cells := mc, slots := ms, locals := 60 * h }
def Pcs (K : KC) (av : List Value) (M : AH) : Array Value → State → Prop := fun v U => v = av.toArray ∧ KOk K U ∧ hd K M U.heap
def Qcs (K : KC) (post : Option Value → AH → Prop) : Array Value → State → Outcome → State → Prop := fun _ _ o t => ∃ (r : Option Value) (M' : AH), o = .returned r ∧ post r M' ∧ hd K M' t.heap
/-- the contract of the method d: from the arguments av and the heap M it returns, and post holds of the answer and the new heap -/
def Sp (l : Launch) (K : KC) (d : MD) (h mc ms : Nat) (av : List Value) (M : AH) (post : Option Value → AH → Prop) : Prop :=
  Met l d.1 (Cond.code d.1 d.2.1 d.2.2.1 d.2.2.2 :: TBL) (rmh h mc ms) (Pcs K av M) (Qcs K post) mc ms (fun q => kB K ≤ q)
theorem Pcs.blind {K : KC} {av : List Value} {M : AH} : FrameBlind (Pcs K av M) := fun a U g mk h => ⟨h.1, KOk.moved (Vm.Alike.refl U.vm) h.2.1, h.2.2⟩
def QR (X : CT) (post : Option Value → AH → Prop) (mc ms : Nat) : Prop := X.Q = MQ X.below (Qcs X.K post) X.args X.s mc ms (fun q => kB X.K ≤ q)
theorem Sp.mono {l : Launch} {K : KC} {d : MD} {h mc ms : Nat} {av : List Value} {M : AH} {post post' : Option Value → AH → Prop} (hp : ∀ r M', post r M' → post' r M') (h0 : Sp l K d h mc ms av M post) : Sp l K d h mc ms av M post' := by
  intro p e ha hc hk s m args below hf hap hP hT
  obtain ⟨n, o, a1, a2, a3, ⟨r, M', b1, b2, b3⟩, b4⟩ := h0 p e ha hc hk s m args below hf hap hP hT
  exact ⟨n, o, a1, a2, a3, ⟨r, M', b1, hp r M' b2, b3⟩, b4⟩
theorem Sp.ofG {l : Launch} {K : KC} {d : MD} {h mc ms : Nat} {av : List Value} {M : AH} {post : Option Value → AH → Prop} (own : String) (hown : d.1.cls = own) (hy : plainName d.1.cls = true) (L0 : List (Option Value)) (hL : lp 0 L0 = lv_args 0 av) (hlen : (lg_sl av).length ≤ d.2.2.1)
    (body : ∀ X : CT, X.l = l → X.K = K → (∀ k, Nat.blt k d.2.2.1 = true → k < X.nL) → X.R = rmh h mc ms → Cx X own d.2.1 d.2.2.2 d.1.name false → QR X post mc ms → G X 0 0 M 0 L0 []) : Sp l K d h mc ms av M post := by
  refine Met.ofW (cc := d.2.1) (maxL := d.2.2.1) (ret := d.2.2.2) hy rfl ?_
  intro p e s m args below meth c s₁ B hml hv
  obtain ⟨hav, hK, hM⟩ := hv
  have hts : ∀ w ∈ Cond.code d.1 d.2.1 d.2.2.1 d.2.2.2 :: TBL, w.before args s = true := atoms_spec B.pre
  have hbs : kB K ≤ s.heap.size := by rw [hM.1]; exact hM.2.1
  have hnn := name_of_methodNamed B.named B.method
  have hC : Cx ((p, l, e, rmh h mc ms, s), (m, args, below, meth, c), (K, d.2.2.1, MQ below (Qcs K post) args s mc ms (fun q => kB K ≤ q))) own d.2.1 d.2.2.2 d.1.name false :=
    ⟨B.exec, B.bytes, hml, by rw [← hown]; exact findClass_of_methodNamed B.named, fun w hw => hts w (List.mem_cons_of_mem _ hw), hK, B.notSynchronized, B.returns, hnn.1, hbs, fun _ => B.noHandlers (hts _ List.mem_cons_self)⟩
  have key := body ((p, l, e, rmh h mc ms, s), (m, args, below, meth, c), (K, d.2.2.1, MQ below (Qcs K post) args s mc ms (fun q => kB K ≤ q))) rfl rfl (fun k hk => Nat.le_of_ble_eq_true hk) rfl hC rfl
  have hl := lv_entry av (n := d.2.2.1) hlen
  subst hav
  rw [lg_entry_eq]
  exact key s.heap [] _ hM (fun x hx => by cases hx) (by unfold lo; rw [hL]; exact hl)
theorem Met.ofWF {l : Launch} {y : MethodName} {ws ws' : List Cond} {rm : Room} {Pc : Array Value → State → Prop} {Qc : Array Value → State → Outcome → State → Prop} {mc ms : Nat} {free : Addr → Prop} {cc : ByteArray} {maxL : Nat} {ret : Option FieldType}
    (hy : plainFor y = true) (hw : ws = Cond.code y cc maxL ret :: ws')
    (body : ∀ p e s m args below meth c s₁, BodyLoose p l y (headSpec ws rm) cc maxL ret e s m args below meth c s₁ → c.maxLocals = maxL → Pc args s →
      W p l e (headSpec ws rm).room s m args below meth c s.heap [] 0 0 (MQ below Qc args s mc ms free) (entryFrame m args maxL)) : Met l y ws rm Pc Qc mc ms free := by
  refine MetFree.of_bodySF (code := cc) (maxLocals := maxL) (ret := ret) hy ?_ ?_
  · intro args s m h hn
    obtain ⟨meth, c, h1, h2, h3, h4, h5, h6, -, -⟩ := Cond.code_spec hn (atoms_spec (ws := ws) h _ (by rw [hw]; exact List.mem_cons_self))
    exact ⟨meth, c, h1, h2, h3, h4, h5, h6⟩
  · intro p e s m args below meth c s₁ B hml hP _
    have hh0 : s₁.heap = s.heap := by rw [B.state]; rfl
    obtain ⟨t, a1, o, b1, b2, b3⟩ := body p e s m args below meth c s₁ B hml hP s₁ hh0 (Stand.of_body B)
    exact ⟨t, o, a1, b1, b2, ⟨b3.1, b3.2⟩⟩
theorem Sp.ofGF {l : Launch} {K : KC} {d : MD} {h mc ms : Nat} {av : List Value} {M : AH} {post : Option Value → AH → Prop} (own : String) (hown : d.1.cls = own) (hy : plainFor d.1 = true) (L0 : List (Option Value)) (hL : lp 0 L0 = lv_args 0 av) (hlen : (lg_sl av).length ≤ d.2.2.1)
    (body : ∀ X : CT, X.l = l → X.K = K → (∀ k, Nat.blt k d.2.2.1 = true → k < X.nL) → X.R = rmh h mc ms → Cx X own d.2.1 d.2.2.2 d.1.name false → QR X post mc ms → G X 0 0 M 0 L0 []) : Sp l K d h mc ms av M post := by
  refine Met.ofWF (cc := d.2.1) (maxL := d.2.2.1) (ret := d.2.2.2) hy rfl ?_
  intro p e s m args below meth c s₁ B hml hv
  obtain ⟨hav, hK, hM⟩ := hv
  have hts : ∀ w ∈ Cond.code d.1 d.2.1 d.2.2.1 d.2.2.2 :: TBL, w.before args s = true := atoms_spec B.pre
  have hbs : kB K ≤ s.heap.size := by rw [hM.1]; exact hM.2.1
  have hnn := name_of_methodNamed B.named B.method
  have hC : Cx ((p, l, e, rmh h mc ms, s), (m, args, below, meth, c), (K, d.2.2.1, MQ below (Qcs K post) args s mc ms (fun q => kB K ≤ q))) own d.2.1 d.2.2.2 d.1.name false :=
    ⟨B.exec, B.bytes, hml, by rw [← hown]; exact findClass_of_methodNamed B.named, fun w hw => hts w (List.mem_cons_of_mem _ hw), hK, B.notSynchronized, B.returns, hnn.1, hbs, fun _ => B.noHandlers (hts _ List.mem_cons_self)⟩
  have key := body ((p, l, e, rmh h mc ms, s), (m, args, below, meth, c), (K, d.2.2.1, MQ below (Qcs K post) args s mc ms (fun q => kB K ≤ q))) rfl rfl (fun k hk => Nat.le_of_ble_eq_true hk) rfl hC rfl
  have hl := lv_entry av (n := d.2.2.1) hlen
  subst hav
  rw [lg_entry_eq]
  exact key s.heap [] _ hM (fun x hx => by cases hx) (by unfold lo; rw [hL]; exact hl)
section GCALL
variable {X : CT} {cs sl : Nat} {M : AH} {pc pc' : Nat} {L : List (Option Value)} {st : List Value} {own : String} {cc : ByteArray} {nm : String} {hh : Bool} {post : Option Value → AH → Prop} {mc ms : Nat}
theorem g_iret (hC : Cx X own cc (some .int) nm hh) (hQ : QR X post mc ms) (h1 : cs ≤ mc) (h2 : sl ≤ ms) {a : Int} (hd : dn cc pc .ireturn 1 pc') (hp : post (some (iv a)) M) : G X cs sl M pc L [iv a] := by
  intro H locs ls hH hl hL
  refine W.widen h1 h2 ?_
  unfold QR at hQ
  rw [hQ]
  exact W.iret hC.1 hC.2.1 (rt_of hC) (fun t ht hW => ⟨_, M, rfl, hp, by rw [ht]; exact hH⟩) hl hd.1 (hlocks := lk_of hC)
theorem g_lret (hC : Cx X own cc (some .long) nm hh) (hQ : QR X post mc ms) (h1 : cs ≤ mc) (h2 : sl ≤ ms) {a : Int} (hd : dn cc pc .lreturn 1 pc') (hp : post (some (jv a)) M) : G X cs sl M pc L [jv a] := by
  intro H locs ls hH hl hL
  refine W.widen h1 h2 ?_
  unfold QR at hQ
  rw [hQ]
  exact W.lret hC.1 hC.2.1 (rt_of hC) (fun t ht hW => ⟨_, M, rfl, hp, by rw [ht]; exact hH⟩) hl hd.1 (hlocks := lk_of hC)
theorem g_zret (hC : Cx X own cc (some .boolean) nm hh) (hQ : QR X post mc ms) (h1 : cs ≤ mc) (h2 : sl ≤ ms) {a : Int} (ha : a = 0 ∨ a = 1) (hd : dn cc pc .ireturn 1 pc') (hp : post (some (iv a)) M) : G X cs sl M pc L [iv a] := by
  intro H locs ls hH hl hL
  refine W.widen h1 h2 ?_
  unfold QR at hQ
  rw [hQ]
  exact W.zret hC.1 hC.2.1 (rt_of hC) (by rcases ha with rfl | rfl <;> decide) (fun t ht hW => ⟨_, M, rfl, hp, by rw [ht]; exact hH⟩) hl hd.1 (hlocks := lk_of hC)
theorem g_vret (hC : Cx X own cc none nm hh) (hQ : QR X post mc ms) (h1 : cs ≤ mc) (h2 : sl ≤ ms) (hd : dn cc pc .return_ 1 pc') (hp : post none M) : G X cs sl M pc L [] := by
  intro H locs ls hH hl hL
  refine W.widen h1 h2 ?_
  unfold QR at hQ
  rw [hQ]
  exact W.vret hC.1 hC.2.1 (rt_of hC) (fun t ht hW => ⟨_, M, rfl, hp, by rw [ht]; exact hH⟩) hl hd.1 (hlocks := lk_of hC)
theorem g_aret {rt : FieldType} (hC : Cx X own cc (some rt) nm hh) (hrt : (∃ n, rt = .object n) ∨ ∃ t, rt = .array t) (hQ : QR X post mc ms) (h1 : cs ≤ mc) (h2 : sl ≤ ms) {a : Nat} (hd : dn cc pc .areturn 1 pc') (hp : post (some (.ref a)) M) : G X cs sl M pc L [.ref a] := by
  intro H locs ls hH hl hL
  refine W.widen h1 h2 ?_
  unfold QR at hQ
  rw [hQ]
  exact W.aret hC.1 hC.2.1 (rt_of hC) hrt (Or.inr ⟨a, rfl⟩) (fun t ht hW => ⟨_, M, rfl, hp, by rw [ht]; exact hH⟩) hl hd.1 (hlocks := lk_of hC)
variable {rt : Option FieldType}
theorem g_run {a : Array Value} {rest st0 : List Value} {mc' ms' : Nat} {post' : Option Value → AH → Prop} (hr : ∀ (H : Heap) (locs : List Loc) (ls : Array Slot), hd X.K M H → lo ls X.nL L → va_Run X.p X.l X.e X.R X.s X.m X.args X.below X.meth X.c H locs cs sl mc' ms' (F0 X.m pc ls st0) rest (Qcs X.K post' a) (fun q => kB X.K ≤ q))
    (kk : ∀ (r : Option Value) (M' : AH), post' r M' → G X (cs + mc') (sl + ms') M' (pc + 3) L (r.toList ++ rest)) : G X cs sl M pc L st0 := by
  intro H locs ls hH hl hL T hT XX
  obtain ⟨v, st₀, t, T', Lo, h0, X', hL', e1, e2, ⟨r, M', hv, hp, hd'⟩, stt⟩ := hr H locs ls hH hL T hT XX
  cases hv
  obtain ⟨t2, a1, b1⟩ := kk v M' hp T'.heap (locs ++ Lo) ls (by rw [e1]; exact hd') (fun x hx => by
    rcases List.mem_append.mp hx with h | h
    · exact hl x h
    · exact hL' x h) hL T' rfl X'
  exact ⟨t2, stt t2 a1, b1⟩
theorem cb_of (hC : Cx X own cc rt nm hh) {d : MD} {idx n h' mc' ms' h0 mc0 ms0 : Nat} (hoc : okC d n) (hl : Cond.methodLink own idx d.1 ∈ TBL) (hR : X.R = rmh h0 mc0 ms0) (hh' : h' + 1 ≤ h0) (hm : d.2.2.1 ≤ 41) :
    CallB X.R X.s X.args own idx d.1 d.2.1 d.2.2.1 d.2.2.2 (Cond.code d.1 d.2.1 d.2.2.1 d.2.2.2 :: TBL) (rmh h' mc' ms') mc' ms' n := by
  have hwa := warm_all (hts_of hC)
  refine ⟨rfl, rfl, by rw [hR]; exact hh', by rw [hR]; show 8 + (_ + 11) + 60 * h' ≤ 60 * h0; omega, ?_, List.mem_cons_self, hts_of hC _ hoc.1, hts_of hC _ hoc.2.1, hoc.2.2.1, ?_, hts_of hC _ hl⟩
  · intro w hw
    rcases List.mem_cons.mp hw with rfl | hw
    · exact hwa _ hoc.1
    · exact hwa w hw
  · intro sig hs
    have h2 := hoc.2.2.2
    rw [hs] at h2
    exact (Option.some.inj h2).symm
theorem cn_of (hC : Cx X own cc rt nm hh) {d : MD} {idx n h' mc' ms' h0 mc0 ms0 : Nat} {host : String} (hoc : okC d n) (hl : Cond.methodLinkNest own idx d.1 host ∈ TBL) (hR : X.R = rmh h0 mc0 ms0) (hh' : h' + 1 ≤ h0) (hm : d.2.2.1 ≤ 41) :
    va_CN X.R X.s X.args own idx d.1 host d.2.1 d.2.2.1 d.2.2.2 (Cond.code d.1 d.2.1 d.2.2.1 d.2.2.2 :: TBL) (rmh h' mc' ms') mc' ms' n := by
  have hwa := warm_all (hts_of hC)
  refine ⟨⟨rfl, rfl, by rw [hR]; exact hh', by rw [hR]; show 8 + (_ + 11) + 60 * h' ≤ 60 * h0; omega, ?_, List.mem_cons_self⟩, hts_of hC _ hoc.1, hts_of hC _ hoc.2.1, hoc.2.2.1, ?_, hts_of hC _ hl⟩
  · intro w hw
    rcases List.mem_cons.mp hw with rfl | hw
    · exact hwa _ hoc.1
    · exact hwa w hw
  · intro sig hs
    have h2 := hoc.2.2.2
    rw [hs] at h2
    exact (Option.some.inj h2).symm
theorem pv_of (hC : Cx X own cc rt nm hh) {C : String} {ci b : Nat} {fs : List Value} {As : List Value} {H : Heap} (hb : M.1 b = some (oO ci fs)) (hci : classes[ci]?.map (·.1) = some C) (hH : hd X.K M H) : PreV X.s H C b (Pcs X.K (.ref b :: As) M) As := by
  obtain ⟨r, r1, cellV, g1, g2, g3, -⟩ := (hH.2.2.2 b _ hb).2.2
  have hcA := ((ok_of hC).1.1 ci _ r1).2
  have hrC : r.1 = C := by
    have r1' : classes[ci]? = some r := r1
    rw [r1'] at hci; exact Option.some.inj hci
  exact ⟨Pcs.blind, ⟨cellV, g1, by rw [g3]; rfl, by rw [g2, ← hrC]; exact hcA.1⟩, fun U hU hW => ⟨rfl, KOk.moved hW.alike (ok_of hC), by rw [hU]; exact hH⟩⟩
theorem ps_of (hC : Cx X own cc rt nm hh) {As : List Value} {H : Heap} (hH : hd X.K M H) : PreS X.s H (Pcs X.K As M) As :=
  ⟨Pcs.blind, fun U hU hW => ⟨rfl, KOk.moved hW.alike (ok_of hC), by rw [hU]; exact hH⟩⟩
theorem fx_of (hC : Cx X own cc rt nm hh) : CallFix X.p X.m X.c cc X.nL X.s X.args TBL own := ⟨hC.1, hC.2.1, hC.2.2.1, hC.2.2.2.1, hC.2.2.2.2.1⟩
theorem rmw {st : List Value} {m : MethodId} {pc : Nat} {ls : Array Slot} {rest : List Value} (h : (st.map fun v => v.category).sum ≤ 8) : 2 * (F0 m pc ls rest).monitorRoom + (st.map fun v => v.category).sum ≤ 8 := lv_room h
theorem g_callV0 (hC : Cx X own cc rt nm hh) {d : MD} {idx h' mc' ms' h0 mc0 ms0 : Nat} {post' : Option Value → AH → Prop}  {b ci : Nat} {fs : List Value} (hsp : Sp X.l X.K d h' mc' ms' (.ref b :: []) M post') (hoc : okC d 0) (hov : okV d) (hl : Cond.methodLink own idx d.1 ∈ TBL) (hb : M.1 b = some (oO ci fs)) (hci : classes[ci]?.map (·.1) = some d.1.cls) (hR : X.R = rmh h0 mc0 ms0) (hh' : h' + 1 ≤ h0) (hm : d.2.2.1 ≤ 41) (hc : cs + mc' ≤ mc0) (hs : sl + ms' ≤ ms0) (hw : (st.map fun v => v.category).sum ≤ 8) (hd : dn cc pc (.invokevirtual idx) 3 pc') (kk : ∀ (r : Option Value) (M' : AH), post' r M' → G X (cs + mc') (sl + ms') M' pc' L (r.toList ++ st)) : G X cs sl M pc L (.ref b :: st) := by
  obtain ⟨hd, rfl⟩ := hd
  refine g_run (mc' := mc') (ms' := ms') (rest := st) (post' := post') (a := (Value.ref b :: []).toArray) (fun H locs ls hH hL => ?_) kk
  exact va_runV (As := []) (fx_of hC) hsp ⟨cb_of hC hoc hl hR hh' hm, hts_of hC _ hov.1, hts_of hC _ hov.2⟩ (pv_of hC hb hci hH) rfl rfl hL.1 rfl (rmw hw) hd ⟨by rw [hR]; exact hc, by rw [hR]; exact hs⟩
theorem g_callI0 (hC : Cx X own cc rt nm hh) {d : MD} {idx h' mc' ms' h0 mc0 ms0 : Nat} {post' : Option Value → AH → Prop}  {b : Nat} (hsp : Sp X.l X.K d h' mc' ms' (.ref b :: []) M post') (hoc : okC d 0) (hoi : okI d) (hn : d.2.2.2 = none) (hl : Cond.methodLink own idx d.1 ∈ TBL) (hR : X.R = rmh h0 mc0 ms0) (hh' : h' + 1 ≤ h0) (hm : d.2.2.1 ≤ 41) (hc : cs + mc' ≤ mc0) (hs : sl + ms' ≤ ms0) (hw : (st.map fun v => v.category).sum ≤ 8) (hd : dn cc pc (.invokespecial idx) 3 pc') (kk : ∀ (r : Option Value) (M' : AH), post' r M' → G X (cs + mc') (sl + ms') M' pc' L (r.toList ++ st)) : G X cs sl M pc L (.ref b :: st) := by
  obtain ⟨hd, rfl⟩ := hd
  refine g_run (mc' := mc') (ms' := ms') (rest := st) (post' := post') (a := (Value.ref b :: []).toArray) (fun H locs ls hH hL => ?_) kk
  have hcb := cb_of (h' := h') (mc' := mc') (ms' := ms') hC hoc hl hR hh' hm
  unfold Sp at hsp
  rw [hn] at hcb hsp
  exact va_runI (As := []) (fx_of hC) hsp ⟨hcb, hoi.1, hts_of hC _ hoi.2⟩ (ps_of hC hH) rfl rfl hL.1 rfl (rmw hw) hd ⟨by rw [hR]; exact hc, by rw [hR]; exact hs⟩
theorem g_callVN0 (hC : Cx X own cc rt nm hh) {d : MD} {idx h' mc' ms' h0 mc0 ms0 : Nat} {post' : Option Value → AH → Prop} {host : String}  {b ci : Nat} {fs : List Value} (hsp : Sp X.l X.K d h' mc' ms' (.ref b :: []) M post') (hoc : okC d 0) (hov : okV d) (hl : Cond.methodLinkNest own idx d.1 host ∈ TBL) (hb : M.1 b = some (oO ci fs)) (hci : classes[ci]?.map (·.1) = some d.1.cls) (hR : X.R = rmh h0 mc0 ms0) (hh' : h' + 1 ≤ h0) (hm : d.2.2.1 ≤ 41) (hc : cs + mc' ≤ mc0) (hs : sl + ms' ≤ ms0) (hw : (st.map fun v => v.category).sum ≤ 8) (hd : dn cc pc (.invokevirtual idx) 3 pc') (kk : ∀ (r : Option Value) (M' : AH), post' r M' → G X (cs + mc') (sl + ms') M' pc' L (r.toList ++ st)) : G X cs sl M pc L (.ref b :: st) := by
  obtain ⟨hd, rfl⟩ := hd
  refine g_run (mc' := mc') (ms' := ms') (rest := st) (post' := post') (a := (Value.ref b :: []).toArray) (fun H locs ls hH hL => ?_) kk
  exact va_runVN (As := []) (fx_of hC) hsp ⟨cn_of hC hoc hl hR hh' hm, hts_of hC _ hov.1, hts_of hC _ hov.2⟩ (pv_of hC hb hci hH) rfl rfl hL.1 rfl (rmw hw) hd ⟨by rw [hR]; exact hc, by rw [hR]; exact hs⟩
theorem g_callIN0 (hC : Cx X own cc rt nm hh) {d : MD} {idx h' mc' ms' h0 mc0 ms0 : Nat} {post' : Option Value → AH → Prop} {host : String}  {b : Nat} (hsp : Sp X.l X.K d h' mc' ms' (.ref b :: []) M post') (hoc : okC d 0) (hoi : okI d) (hn : d.2.2.2 = none) (hl : Cond.methodLinkNest own idx d.1 host ∈ TBL) (hR : X.R = rmh h0 mc0 ms0) (hh' : h' + 1 ≤ h0) (hm : d.2.2.1 ≤ 41) (hc : cs + mc' ≤ mc0) (hs : sl + ms' ≤ ms0) (hw : (st.map fun v => v.category).sum ≤ 8) (hd : dn cc pc (.invokespecial idx) 3 pc') (kk : ∀ (r : Option Value) (M' : AH), post' r M' → G X (cs + mc') (sl + ms') M' pc' L (r.toList ++ st)) : G X cs sl M pc L (.ref b :: st) := by
  obtain ⟨hd, rfl⟩ := hd
  refine g_run (mc' := mc') (ms' := ms') (rest := st) (post' := post') (a := (Value.ref b :: []).toArray) (fun H locs ls hH hL => ?_) kk
  have hcb := cn_of (h' := h') (mc' := mc') (ms' := ms') hC hoc hl hR hh' hm
  unfold Sp at hsp
  rw [hn] at hcb hsp
  exact va_runIN (As := []) (fx_of hC) hsp ⟨hcb, hoi.1, hts_of hC _ hoi.2⟩ (ps_of hC hH) rfl rfl hL.1 rfl (rmw hw) hd ⟨by rw [hR]; exact hc, by rw [hR]; exact hs⟩
theorem g_callS0 (hC : Cx X own cc rt nm hh) {d : MD} {idx h' mc' ms' h0 mc0 ms0 : Nat} {post' : Option Value → AH → Prop}  (hsp : Sp X.l X.K d h' mc' ms' [] M post') (hoc : okC d 0) (hos : okS d) (hl : Cond.methodLink own idx d.1 ∈ TBL) (hR : X.R = rmh h0 mc0 ms0) (hh' : h' + 1 ≤ h0) (hm : d.2.2.1 ≤ 41) (hc : cs + mc' ≤ mc0) (hs : sl + ms' ≤ ms0) (hw : (st.map fun v => v.category).sum ≤ 8) (hd : dn cc pc (.invokestatic idx) 3 pc') (kk : ∀ (r : Option Value) (M' : AH), post' r M' → G X (cs + mc') (sl + ms') M' pc' L (r.toList ++ st)) : G X cs sl M pc L (st) := by
  obtain ⟨hd, rfl⟩ := hd
  refine g_run (mc' := mc') (ms' := ms') (rest := st) (post' := post') (a := ([] : List Value).toArray) (fun H locs ls hH hL => ?_) kk
  exact va_runS (As := []) (fx_of hC) hsp ⟨cb_of hC hoc hl hR hh' hm, hts_of hC _ hos⟩ (ps_of hC hH) rfl rfl hL.1 rfl (rmw hw) hd ⟨by rw [hR]; exact hc, by rw [hR]; exact hs⟩
theorem g_callV1 (hC : Cx X own cc rt nm hh) {d : MD} {idx h' mc' ms' h0 mc0 ms0 : Nat} {post' : Option Value → AH → Prop} {v1 : Value} {b ci : Nat} {fs : List Value} (hsp : Sp X.l X.K d h' mc' ms' (.ref b :: [v1]) M post') (hoc : okC d 1) (hov : okV d) (hl : Cond.methodLink own idx d.1 ∈ TBL) (hb : M.1 b = some (oO ci fs)) (hci : classes[ci]?.map (·.1) = some d.1.cls) (hR : X.R = rmh h0 mc0 ms0) (hh' : h' + 1 ≤ h0) (hm : d.2.2.1 ≤ 41) (hc : cs + mc' ≤ mc0) (hs : sl + ms' ≤ ms0) (hw : (st.map fun v => v.category).sum ≤ 8) (hd : dn cc pc (.invokevirtual idx) 3 pc') (kk : ∀ (r : Option Value) (M' : AH), post' r M' → G X (cs + mc') (sl + ms') M' pc' L (r.toList ++ st)) : G X cs sl M pc L (v1 :: .ref b :: st) := by
  obtain ⟨hd, rfl⟩ := hd
  refine g_run (mc' := mc') (ms' := ms') (rest := st) (post' := post') (a := (Value.ref b :: [v1]).toArray) (fun H locs ls hH hL => ?_) kk
  exact va_runV (As := [v1]) (fx_of hC) hsp ⟨cb_of hC hoc hl hR hh' hm, hts_of hC _ hov.1, hts_of hC _ hov.2⟩ (pv_of hC hb hci hH) rfl rfl hL.1 rfl (rmw hw) hd ⟨by rw [hR]; exact hc, by rw [hR]; exact hs⟩
theorem g_callI1 (hC : Cx X own cc rt nm hh) {d : MD} {idx h' mc' ms' h0 mc0 ms0 : Nat} {post' : Option Value → AH → Prop} {v1 : Value} {b : Nat} (hsp : Sp X.l X.K d h' mc' ms' (.ref b :: [v1]) M post') (hoc : okC d 1) (hoi : okI d) (hn : d.2.2.2 = none) (hl : Cond.methodLink own idx d.1 ∈ TBL) (hR : X.R = rmh h0 mc0 ms0) (hh' : h' + 1 ≤ h0) (hm : d.2.2.1 ≤ 41) (hc : cs + mc' ≤ mc0) (hs : sl + ms' ≤ ms0) (hw : (st.map fun v => v.category).sum ≤ 8) (hd : dn cc pc (.invokespecial idx) 3 pc') (kk : ∀ (r : Option Value) (M' : AH), post' r M' → G X (cs + mc') (sl + ms') M' pc' L (r.toList ++ st)) : G X cs sl M pc L (v1 :: .ref b :: st) := by
  obtain ⟨hd, rfl⟩ := hd
  refine g_run (mc' := mc') (ms' := ms') (rest := st) (post' := post') (a := (Value.ref b :: [v1]).toArray) (fun H locs ls hH hL => ?_) kk
  have hcb := cb_of (h' := h') (mc' := mc') (ms' := ms') hC hoc hl hR hh' hm
  unfold Sp at hsp
  rw [hn] at hcb hsp
  exact va_runI (As := [v1]) (fx_of hC) hsp ⟨hcb, hoi.1, hts_of hC _ hoi.2⟩ (ps_of hC hH) rfl rfl hL.1 rfl (rmw hw) hd ⟨by rw [hR]; exact hc, by rw [hR]; exact hs⟩
theorem g_callVN1 (hC : Cx X own cc rt nm hh) {d : MD} {idx h' mc' ms' h0 mc0 ms0 : Nat} {post' : Option Value → AH → Prop} {host : String} {v1 : Value} {b ci : Nat} {fs : List Value} (hsp : Sp X.l X.K d h' mc' ms' (.ref b :: [v1]) M post') (hoc : okC d 1) (hov : okV d) (hl : Cond.methodLinkNest own idx d.1 host ∈ TBL) (hb : M.1 b = some (oO ci fs)) (hci : classes[ci]?.map (·.1) = some d.1.cls) (hR : X.R = rmh h0 mc0 ms0) (hh' : h' + 1 ≤ h0) (hm : d.2.2.1 ≤ 41) (hc : cs + mc' ≤ mc0) (hs : sl + ms' ≤ ms0) (hw : (st.map fun v => v.category).sum ≤ 8) (hd : dn cc pc (.invokevirtual idx) 3 pc') (kk : ∀ (r : Option Value) (M' : AH), post' r M' → G X (cs + mc') (sl + ms') M' pc' L (r.toList ++ st)) : G X cs sl M pc L (v1 :: .ref b :: st) := by
  obtain ⟨hd, rfl⟩ := hd
  refine g_run (mc' := mc') (ms' := ms') (rest := st) (post' := post') (a := (Value.ref b :: [v1]).toArray) (fun H locs ls hH hL => ?_) kk
  exact va_runVN (As := [v1]) (fx_of hC) hsp ⟨cn_of hC hoc hl hR hh' hm, hts_of hC _ hov.1, hts_of hC _ hov.2⟩ (pv_of hC hb hci hH) rfl rfl hL.1 rfl (rmw hw) hd ⟨by rw [hR]; exact hc, by rw [hR]; exact hs⟩
theorem g_callIN1 (hC : Cx X own cc rt nm hh) {d : MD} {idx h' mc' ms' h0 mc0 ms0 : Nat} {post' : Option Value → AH → Prop} {host : String} {v1 : Value} {b : Nat} (hsp : Sp X.l X.K d h' mc' ms' (.ref b :: [v1]) M post') (hoc : okC d 1) (hoi : okI d) (hn : d.2.2.2 = none) (hl : Cond.methodLinkNest own idx d.1 host ∈ TBL) (hR : X.R = rmh h0 mc0 ms0) (hh' : h' + 1 ≤ h0) (hm : d.2.2.1 ≤ 41) (hc : cs + mc' ≤ mc0) (hs : sl + ms' ≤ ms0) (hw : (st.map fun v => v.category).sum ≤ 8) (hd : dn cc pc (.invokespecial idx) 3 pc') (kk : ∀ (r : Option Value) (M' : AH), post' r M' → G X (cs + mc') (sl + ms') M' pc' L (r.toList ++ st)) : G X cs sl M pc L (v1 :: .ref b :: st) := by
  obtain ⟨hd, rfl⟩ := hd
  refine g_run (mc' := mc') (ms' := ms') (rest := st) (post' := post') (a := (Value.ref b :: [v1]).toArray) (fun H locs ls hH hL => ?_) kk
  have hcb := cn_of (h' := h') (mc' := mc') (ms' := ms') hC hoc hl hR hh' hm
  unfold Sp at hsp
  rw [hn] at hcb hsp
  exact va_runIN (As := [v1]) (fx_of hC) hsp ⟨hcb, hoi.1, hts_of hC _ hoi.2⟩ (ps_of hC hH) rfl rfl hL.1 rfl (rmw hw) hd ⟨by rw [hR]; exact hc, by rw [hR]; exact hs⟩
theorem g_callS1 (hC : Cx X own cc rt nm hh) {d : MD} {idx h' mc' ms' h0 mc0 ms0 : Nat} {post' : Option Value → AH → Prop} {v1 : Value} (hsp : Sp X.l X.K d h' mc' ms' [v1] M post') (hoc : okC d 1) (hos : okS d) (hl : Cond.methodLink own idx d.1 ∈ TBL) (hR : X.R = rmh h0 mc0 ms0) (hh' : h' + 1 ≤ h0) (hm : d.2.2.1 ≤ 41) (hc : cs + mc' ≤ mc0) (hs : sl + ms' ≤ ms0) (hw : (st.map fun v => v.category).sum ≤ 8) (hd : dn cc pc (.invokestatic idx) 3 pc') (kk : ∀ (r : Option Value) (M' : AH), post' r M' → G X (cs + mc') (sl + ms') M' pc' L (r.toList ++ st)) : G X cs sl M pc L (v1 :: st) := by
  obtain ⟨hd, rfl⟩ := hd
  refine g_run (mc' := mc') (ms' := ms') (rest := st) (post' := post') (a := ([v1] : List Value).toArray) (fun H locs ls hH hL => ?_) kk
  exact va_runS (As := [v1]) (fx_of hC) hsp ⟨cb_of hC hoc hl hR hh' hm, hts_of hC _ hos⟩ (ps_of hC hH) rfl rfl hL.1 rfl (rmw hw) hd ⟨by rw [hR]; exact hc, by rw [hR]; exact hs⟩
theorem g_callV2 (hC : Cx X own cc rt nm hh) {d : MD} {idx h' mc' ms' h0 mc0 ms0 : Nat} {post' : Option Value → AH → Prop} {v1 v2 : Value} {b ci : Nat} {fs : List Value} (hsp : Sp X.l X.K d h' mc' ms' (.ref b :: [v1, v2]) M post') (hoc : okC d 2) (hov : okV d) (hl : Cond.methodLink own idx d.1 ∈ TBL) (hb : M.1 b = some (oO ci fs)) (hci : classes[ci]?.map (·.1) = some d.1.cls) (hR : X.R = rmh h0 mc0 ms0) (hh' : h' + 1 ≤ h0) (hm : d.2.2.1 ≤ 41) (hc : cs + mc' ≤ mc0) (hs : sl + ms' ≤ ms0) (hw : (st.map fun v => v.category).sum ≤ 8) (hd : dn cc pc (.invokevirtual idx) 3 pc') (kk : ∀ (r : Option Value) (M' : AH), post' r M' → G X (cs + mc') (sl + ms') M' pc' L (r.toList ++ st)) : G X cs sl M pc L (v2 :: v1 :: .ref b :: st) := by
  obtain ⟨hd, rfl⟩ := hd
  refine g_run (mc' := mc') (ms' := ms') (rest := st) (post' := post') (a := (Value.ref b :: [v1, v2]).toArray) (fun H locs ls hH hL => ?_) kk
  exact va_runV (As := [v1, v2]) (fx_of hC) hsp ⟨cb_of hC hoc hl hR hh' hm, hts_of hC _ hov.1, hts_of hC _ hov.2⟩ (pv_of hC hb hci hH) rfl rfl hL.1 rfl (rmw hw) hd ⟨by rw [hR]; exact hc, by rw [hR]; exact hs⟩
theorem g_callI2 (hC : Cx X own cc rt nm hh) {d : MD} {idx h' mc' ms' h0 mc0 ms0 : Nat} {post' : Option Value → AH → Prop} {v1 v2 : Value} {b : Nat} (hsp : Sp X.l X.K d h' mc' ms' (.ref b :: [v1, v2]) M post') (hoc : okC d 2) (hoi : okI d) (hn : d.2.2.2 = none) (hl : Cond.methodLink own idx d.1 ∈ TBL) (hR : X.R = rmh h0 mc0 ms0) (hh' : h' + 1 ≤ h0) (hm : d.2.2.1 ≤ 41) (hc : cs + mc' ≤ mc0) (hs : sl + ms' ≤ ms0) (hw : (st.map fun v => v.category).sum ≤ 8) (hd : dn cc pc (.invokespecial idx) 3 pc') (kk : ∀ (r : Option Value) (M' : AH), post' r M' → G X (cs + mc') (sl + ms') M' pc' L (r.toList ++ st)) : G X cs sl M pc L (v2 :: v1 :: .ref b :: st) := by
  obtain ⟨hd, rfl⟩ := hd
  refine g_run (mc' := mc') (ms' := ms') (rest := st) (post' := post') (a := (Value.ref b :: [v1, v2]).toArray) (fun H locs ls hH hL => ?_) kk
  have hcb := cb_of (h' := h') (mc' := mc') (ms' := ms') hC hoc hl hR hh' hm
  unfold Sp at hsp
  rw [hn] at hcb hsp
  exact va_runI (As := [v1, v2]) (fx_of hC) hsp ⟨hcb, hoi.1, hts_of hC _ hoi.2⟩ (ps_of hC hH) rfl rfl hL.1 rfl (rmw hw) hd ⟨by rw [hR]; exact hc, by rw [hR]; exact hs⟩
theorem g_callVN2 (hC : Cx X own cc rt nm hh) {d : MD} {idx h' mc' ms' h0 mc0 ms0 : Nat} {post' : Option Value → AH → Prop} {host : String} {v1 v2 : Value} {b ci : Nat} {fs : List Value} (hsp : Sp X.l X.K d h' mc' ms' (.ref b :: [v1, v2]) M post') (hoc : okC d 2) (hov : okV d) (hl : Cond.methodLinkNest own idx d.1 host ∈ TBL) (hb : M.1 b = some (oO ci fs)) (hci : classes[ci]?.map (·.1) = some d.1.cls) (hR : X.R = rmh h0 mc0 ms0) (hh' : h' + 1 ≤ h0) (hm : d.2.2.1 ≤ 41) (hc : cs + mc' ≤ mc0) (hs : sl + ms' ≤ ms0) (hw : (st.map fun v => v.category).sum ≤ 8) (hd : dn cc pc (.invokevirtual idx) 3 pc') (kk : ∀ (r : Option Value) (M' : AH), post' r M' → G X (cs + mc') (sl + ms') M' pc' L (r.toList ++ st)) : G X cs sl M pc L (v2 :: v1 :: .ref b :: st) := by
  obtain ⟨hd, rfl⟩ := hd
  refine g_run (mc' := mc') (ms' := ms') (rest := st) (post' := post') (a := (Value.ref b :: [v1, v2]).toArray) (fun H locs ls hH hL => ?_) kk
  exact va_runVN (As := [v1, v2]) (fx_of hC) hsp ⟨cn_of hC hoc hl hR hh' hm, hts_of hC _ hov.1, hts_of hC _ hov.2⟩ (pv_of hC hb hci hH) rfl rfl hL.1 rfl (rmw hw) hd ⟨by rw [hR]; exact hc, by rw [hR]; exact hs⟩
theorem g_callIN2 (hC : Cx X own cc rt nm hh) {d : MD} {idx h' mc' ms' h0 mc0 ms0 : Nat} {post' : Option Value → AH → Prop} {host : String} {v1 v2 : Value} {b : Nat} (hsp : Sp X.l X.K d h' mc' ms' (.ref b :: [v1, v2]) M post') (hoc : okC d 2) (hoi : okI d) (hn : d.2.2.2 = none) (hl : Cond.methodLinkNest own idx d.1 host ∈ TBL) (hR : X.R = rmh h0 mc0 ms0) (hh' : h' + 1 ≤ h0) (hm : d.2.2.1 ≤ 41) (hc : cs + mc' ≤ mc0) (hs : sl + ms' ≤ ms0) (hw : (st.map fun v => v.category).sum ≤ 8) (hd : dn cc pc (.invokespecial idx) 3 pc') (kk : ∀ (r : Option Value) (M' : AH), post' r M' → G X (cs + mc') (sl + ms') M' pc' L (r.toList ++ st)) : G X cs sl M pc L (v2 :: v1 :: .ref b :: st) := by
  obtain ⟨hd, rfl⟩ := hd
  refine g_run (mc' := mc') (ms' := ms') (rest := st) (post' := post') (a := (Value.ref b :: [v1, v2]).toArray) (fun H locs ls hH hL => ?_) kk
  have hcb := cn_of (h' := h') (mc' := mc') (ms' := ms') hC hoc hl hR hh' hm
  unfold Sp at hsp
  rw [hn] at hcb hsp
  exact va_runIN (As := [v1, v2]) (fx_of hC) hsp ⟨hcb, hoi.1, hts_of hC _ hoi.2⟩ (ps_of hC hH) rfl rfl hL.1 rfl (rmw hw) hd ⟨by rw [hR]; exact hc, by rw [hR]; exact hs⟩
theorem g_callS2 (hC : Cx X own cc rt nm hh) {d : MD} {idx h' mc' ms' h0 mc0 ms0 : Nat} {post' : Option Value → AH → Prop} {v1 v2 : Value} (hsp : Sp X.l X.K d h' mc' ms' [v1, v2] M post') (hoc : okC d 2) (hos : okS d) (hl : Cond.methodLink own idx d.1 ∈ TBL) (hR : X.R = rmh h0 mc0 ms0) (hh' : h' + 1 ≤ h0) (hm : d.2.2.1 ≤ 41) (hc : cs + mc' ≤ mc0) (hs : sl + ms' ≤ ms0) (hw : (st.map fun v => v.category).sum ≤ 8) (hd : dn cc pc (.invokestatic idx) 3 pc') (kk : ∀ (r : Option Value) (M' : AH), post' r M' → G X (cs + mc') (sl + ms') M' pc' L (r.toList ++ st)) : G X cs sl M pc L (v2 :: v1 :: st) := by
  obtain ⟨hd, rfl⟩ := hd
  refine g_run (mc' := mc') (ms' := ms') (rest := st) (post' := post') (a := ([v1, v2] : List Value).toArray) (fun H locs ls hH hL => ?_) kk
  exact va_runS (As := [v1, v2]) (fx_of hC) hsp ⟨cb_of hC hoc hl hR hh' hm, hts_of hC _ hos⟩ (ps_of hC hH) rfl rfl hL.1 rfl (rmw hw) hd ⟨by rw [hR]; exact hc, by rw [hR]; exact hs⟩
theorem g_callV3 (hC : Cx X own cc rt nm hh) {d : MD} {idx h' mc' ms' h0 mc0 ms0 : Nat} {post' : Option Value → AH → Prop} {v1 v2 v3 : Value} {b ci : Nat} {fs : List Value} (hsp : Sp X.l X.K d h' mc' ms' (.ref b :: [v1, v2, v3]) M post') (hoc : okC d 3) (hov : okV d) (hl : Cond.methodLink own idx d.1 ∈ TBL) (hb : M.1 b = some (oO ci fs)) (hci : classes[ci]?.map (·.1) = some d.1.cls) (hR : X.R = rmh h0 mc0 ms0) (hh' : h' + 1 ≤ h0) (hm : d.2.2.1 ≤ 41) (hc : cs + mc' ≤ mc0) (hs : sl + ms' ≤ ms0) (hw : (st.map fun v => v.category).sum ≤ 8) (hd : dn cc pc (.invokevirtual idx) 3 pc') (kk : ∀ (r : Option Value) (M' : AH), post' r M' → G X (cs + mc') (sl + ms') M' pc' L (r.toList ++ st)) : G X cs sl M pc L (v3 :: v2 :: v1 :: .ref b :: st) := by
  obtain ⟨hd, rfl⟩ := hd
  refine g_run (mc' := mc') (ms' := ms') (rest := st) (post' := post') (a := (Value.ref b :: [v1, v2, v3]).toArray) (fun H locs ls hH hL => ?_) kk
  exact va_runV (As := [v1, v2, v3]) (fx_of hC) hsp ⟨cb_of hC hoc hl hR hh' hm, hts_of hC _ hov.1, hts_of hC _ hov.2⟩ (pv_of hC hb hci hH) rfl rfl hL.1 rfl (rmw hw) hd ⟨by rw [hR]; exact hc, by rw [hR]; exact hs⟩
theorem g_callI3 (hC : Cx X own cc rt nm hh) {d : MD} {idx h' mc' ms' h0 mc0 ms0 : Nat} {post' : Option Value → AH → Prop} {v1 v2 v3 : Value} {b : Nat} (hsp : Sp X.l X.K d h' mc' ms' (.ref b :: [v1, v2, v3]) M post') (hoc : okC d 3) (hoi : okI d) (hn : d.2.2.2 = none) (hl : Cond.methodLink own idx d.1 ∈ TBL) (hR : X.R = rmh h0 mc0 ms0) (hh' : h' + 1 ≤ h0) (hm : d.2.2.1 ≤ 41) (hc : cs + mc' ≤ mc0) (hs : sl + ms' ≤ ms0) (hw : (st.map fun v => v.category).sum ≤ 8) (hd : dn cc pc (.invokespecial idx) 3 pc') (kk : ∀ (r : Option Value) (M' : AH), post' r M' → G X (cs + mc') (sl + ms') M' pc' L (r.toList ++ st)) : G X cs sl M pc L (v3 :: v2 :: v1 :: .ref b :: st) := by
  obtain ⟨hd, rfl⟩ := hd
  refine g_run (mc' := mc') (ms' := ms') (rest := st) (post' := post') (a := (Value.ref b :: [v1, v2, v3]).toArray) (fun H locs ls hH hL => ?_) kk
  have hcb := cb_of (h' := h') (mc' := mc') (ms' := ms') hC hoc hl hR hh' hm
  unfold Sp at hsp
  rw [hn] at hcb hsp
  exact va_runI (As := [v1, v2, v3]) (fx_of hC) hsp ⟨hcb, hoi.1, hts_of hC _ hoi.2⟩ (ps_of hC hH) rfl rfl hL.1 rfl (rmw hw) hd ⟨by rw [hR]; exact hc, by rw [hR]; exact hs⟩
theorem g_callVN3 (hC : Cx X own cc rt nm hh) {d : MD} {idx h' mc' ms' h0 mc0 ms0 : Nat} {post' : Option Value → AH → Prop} {host : String} {v1 v2 v3 : Value} {b ci : Nat} {fs : List Value} (hsp : Sp X.l X.K d h' mc' ms' (.ref b :: [v1, v2, v3]) M post') (hoc : okC d 3) (hov : okV d) (hl : Cond.methodLinkNest own idx d.1 host ∈ TBL) (hb : M.1 b = some (oO ci fs)) (hci : classes[ci]?.map (·.1) = some d.1.cls) (hR : X.R = rmh h0 mc0 ms0) (hh' : h' + 1 ≤ h0) (hm : d.2.2.1 ≤ 41) (hc : cs + mc' ≤ mc0) (hs : sl + ms' ≤ ms0) (hw : (st.map fun v => v.category).sum ≤ 8) (hd : dn cc pc (.invokevirtual idx) 3 pc') (kk : ∀ (r : Option Value) (M' : AH), post' r M' → G X (cs + mc') (sl + ms') M' pc' L (r.toList ++ st)) : G X cs sl M pc L (v3 :: v2 :: v1 :: .ref b :: st) := by
  obtain ⟨hd, rfl⟩ := hd
  refine g_run (mc' := mc') (ms' := ms') (rest := st) (post' := post') (a := (Value.ref b :: [v1, v2, v3]).toArray) (fun H locs ls hH hL => ?_) kk
  exact va_runVN (As := [v1, v2, v3]) (fx_of hC) hsp ⟨cn_of hC hoc hl hR hh' hm, hts_of hC _ hov.1, hts_of hC _ hov.2⟩ (pv_of hC hb hci hH) rfl rfl hL.1 rfl (rmw hw) hd ⟨by rw [hR]; exact hc, by rw [hR]; exact hs⟩
theorem g_callIN3 (hC : Cx X own cc rt nm hh) {d : MD} {idx h' mc' ms' h0 mc0 ms0 : Nat} {post' : Option Value → AH → Prop} {host : String} {v1 v2 v3 : Value} {b : Nat} (hsp : Sp X.l X.K d h' mc' ms' (.ref b :: [v1, v2, v3]) M post') (hoc : okC d 3) (hoi : okI d) (hn : d.2.2.2 = none) (hl : Cond.methodLinkNest own idx d.1 host ∈ TBL) (hR : X.R = rmh h0 mc0 ms0) (hh' : h' + 1 ≤ h0) (hm : d.2.2.1 ≤ 41) (hc : cs + mc' ≤ mc0) (hs : sl + ms' ≤ ms0) (hw : (st.map fun v => v.category).sum ≤ 8) (hd : dn cc pc (.invokespecial idx) 3 pc') (kk : ∀ (r : Option Value) (M' : AH), post' r M' → G X (cs + mc') (sl + ms') M' pc' L (r.toList ++ st)) : G X cs sl M pc L (v3 :: v2 :: v1 :: .ref b :: st) := by
  obtain ⟨hd, rfl⟩ := hd
  refine g_run (mc' := mc') (ms' := ms') (rest := st) (post' := post') (a := (Value.ref b :: [v1, v2, v3]).toArray) (fun H locs ls hH hL => ?_) kk
  have hcb := cn_of (h' := h') (mc' := mc') (ms' := ms') hC hoc hl hR hh' hm
  unfold Sp at hsp
  rw [hn] at hcb hsp
  exact va_runIN (As := [v1, v2, v3]) (fx_of hC) hsp ⟨hcb, hoi.1, hts_of hC _ hoi.2⟩ (ps_of hC hH) rfl rfl hL.1 rfl (rmw hw) hd ⟨by rw [hR]; exact hc, by rw [hR]; exact hs⟩
theorem g_callS3 (hC : Cx X own cc rt nm hh) {d : MD} {idx h' mc' ms' h0 mc0 ms0 : Nat} {post' : Option Value → AH → Prop} {v1 v2 v3 : Value} (hsp : Sp X.l X.K d h' mc' ms' [v1, v2, v3] M post') (hoc : okC d 3) (hos : okS d) (hl : Cond.methodLink own idx d.1 ∈ TBL) (hR : X.R = rmh h0 mc0 ms0) (hh' : h' + 1 ≤ h0) (hm : d.2.2.1 ≤ 41) (hc : cs + mc' ≤ mc0) (hs : sl + ms' ≤ ms0) (hw : (st.map fun v => v.category).sum ≤ 8) (hd : dn cc pc (.invokestatic idx) 3 pc') (kk : ∀ (r : Option Value) (M' : AH), post' r M' → G X (cs + mc') (sl + ms') M' pc' L (r.toList ++ st)) : G X cs sl M pc L (v3 :: v2 :: v1 :: st) := by
  obtain ⟨hd, rfl⟩ := hd
  refine g_run (mc' := mc') (ms' := ms') (rest := st) (post' := post') (a := ([v1, v2, v3] : List Value).toArray) (fun H locs ls hH hL => ?_) kk
  exact va_runS (As := [v1, v2, v3]) (fx_of hC) hsp ⟨cb_of hC hoc hl hR hh' hm, hts_of hC _ hos⟩ (ps_of hC hH) rfl rfl hL.1 rfl (rmw hw) hd ⟨by rw [hR]; exact hc, by rw [hR]; exact hs⟩
theorem g_callV4 (hC : Cx X own cc rt nm hh) {d : MD} {idx h' mc' ms' h0 mc0 ms0 : Nat} {post' : Option Value → AH → Prop} {v1 v2 v3 v4 : Value} {b ci : Nat} {fs : List Value} (hsp : Sp X.l X.K d h' mc' ms' (.ref b :: [v1, v2, v3, v4]) M post') (hoc : okC d 4) (hov : okV d) (hl : Cond.methodLink own idx d.1 ∈ TBL) (hb : M.1 b = some (oO ci fs)) (hci : classes[ci]?.map (·.1) = some d.1.cls) (hR : X.R = rmh h0 mc0 ms0) (hh' : h' + 1 ≤ h0) (hm : d.2.2.1 ≤ 41) (hc : cs + mc' ≤ mc0) (hs : sl + ms' ≤ ms0) (hw : (st.map fun v => v.category).sum ≤ 8) (hd : dn cc pc (.invokevirtual idx) 3 pc') (kk : ∀ (r : Option Value) (M' : AH), post' r M' → G X (cs + mc') (sl + ms') M' pc' L (r.toList ++ st)) : G X cs sl M pc L (v4 :: v3 :: v2 :: v1 :: .ref b :: st) := by
  obtain ⟨hd, rfl⟩ := hd
  refine g_run (mc' := mc') (ms' := ms') (rest := st) (post' := post') (a := (Value.ref b :: [v1, v2, v3, v4]).toArray) (fun H locs ls hH hL => ?_) kk
  exact va_runV (As := [v1, v2, v3, v4]) (fx_of hC) hsp ⟨cb_of hC hoc hl hR hh' hm, hts_of hC _ hov.1, hts_of hC _ hov.2⟩ (pv_of hC hb hci hH) rfl rfl hL.1 rfl (rmw hw) hd ⟨by rw [hR]; exact hc, by rw [hR]; exact hs⟩
theorem g_callI4 (hC : Cx X own cc rt nm hh) {d : MD} {idx h' mc' ms' h0 mc0 ms0 : Nat} {post' : Option Value → AH → Prop} {v1 v2 v3 v4 : Value} {b : Nat} (hsp : Sp X.l X.K d h' mc' ms' (.ref b :: [v1, v2, v3, v4]) M post') (hoc : okC d 4) (hoi : okI d) (hn : d.2.2.2 = none) (hl : Cond.methodLink own idx d.1 ∈ TBL) (hR : X.R = rmh h0 mc0 ms0) (hh' : h' + 1 ≤ h0) (hm : d.2.2.1 ≤ 41) (hc : cs + mc' ≤ mc0) (hs : sl + ms' ≤ ms0) (hw : (st.map fun v => v.category).sum ≤ 8) (hd : dn cc pc (.invokespecial idx) 3 pc') (kk : ∀ (r : Option Value) (M' : AH), post' r M' → G X (cs + mc') (sl + ms') M' pc' L (r.toList ++ st)) : G X cs sl M pc L (v4 :: v3 :: v2 :: v1 :: .ref b :: st) := by
  obtain ⟨hd, rfl⟩ := hd
  refine g_run (mc' := mc') (ms' := ms') (rest := st) (post' := post') (a := (Value.ref b :: [v1, v2, v3, v4]).toArray) (fun H locs ls hH hL => ?_) kk
  have hcb := cb_of (h' := h') (mc' := mc') (ms' := ms') hC hoc hl hR hh' hm
  unfold Sp at hsp
  rw [hn] at hcb hsp
  exact va_runI (As := [v1, v2, v3, v4]) (fx_of hC) hsp ⟨hcb, hoi.1, hts_of hC _ hoi.2⟩ (ps_of hC hH) rfl rfl hL.1 rfl (rmw hw) hd ⟨by rw [hR]; exact hc, by rw [hR]; exact hs⟩
theorem g_callVN4 (hC : Cx X own cc rt nm hh) {d : MD} {idx h' mc' ms' h0 mc0 ms0 : Nat} {post' : Option Value → AH → Prop} {host : String} {v1 v2 v3 v4 : Value} {b ci : Nat} {fs : List Value} (hsp : Sp X.l X.K d h' mc' ms' (.ref b :: [v1, v2, v3, v4]) M post') (hoc : okC d 4) (hov : okV d) (hl : Cond.methodLinkNest own idx d.1 host ∈ TBL) (hb : M.1 b = some (oO ci fs)) (hci : classes[ci]?.map (·.1) = some d.1.cls) (hR : X.R = rmh h0 mc0 ms0) (hh' : h' + 1 ≤ h0) (hm : d.2.2.1 ≤ 41) (hc : cs + mc' ≤ mc0) (hs : sl + ms' ≤ ms0) (hw : (st.map fun v => v.category).sum ≤ 8) (hd : dn cc pc (.invokevirtual idx) 3 pc') (kk : ∀ (r : Option Value) (M' : AH), post' r M' → G X (cs + mc') (sl + ms') M' pc' L (r.toList ++ st)) : G X cs sl M pc L (v4 :: v3 :: v2 :: v1 :: .ref b :: st) := by
  obtain ⟨hd, rfl⟩ := hd
  refine g_run (mc' := mc') (ms' := ms') (rest := st) (post' := post') (a := (Value.ref b :: [v1, v2, v3, v4]).toArray) (fun H locs ls hH hL => ?_) kk
  exact va_runVN (As := [v1, v2, v3, v4]) (fx_of hC) hsp ⟨cn_of hC hoc hl hR hh' hm, hts_of hC _ hov.1, hts_of hC _ hov.2⟩ (pv_of hC hb hci hH) rfl rfl hL.1 rfl (rmw hw) hd ⟨by rw [hR]; exact hc, by rw [hR]; exact hs⟩
theorem g_callIN4 (hC : Cx X own cc rt nm hh) {d : MD} {idx h' mc' ms' h0 mc0 ms0 : Nat} {post' : Option Value → AH → Prop} {host : String} {v1 v2 v3 v4 : Value} {b : Nat} (hsp : Sp X.l X.K d h' mc' ms' (.ref b :: [v1, v2, v3, v4]) M post') (hoc : okC d 4) (hoi : okI d) (hn : d.2.2.2 = none) (hl : Cond.methodLinkNest own idx d.1 host ∈ TBL) (hR : X.R = rmh h0 mc0 ms0) (hh' : h' + 1 ≤ h0) (hm : d.2.2.1 ≤ 41) (hc : cs + mc' ≤ mc0) (hs : sl + ms' ≤ ms0) (hw : (st.map fun v => v.category).sum ≤ 8) (hd : dn cc pc (.invokespecial idx) 3 pc') (kk : ∀ (r : Option Value) (M' : AH), post' r M' → G X (cs + mc') (sl + ms') M' pc' L (r.toList ++ st)) : G X cs sl M pc L (v4 :: v3 :: v2 :: v1 :: .ref b :: st) := by
  obtain ⟨hd, rfl⟩ := hd
  refine g_run (mc' := mc') (ms' := ms') (rest := st) (post' := post') (a := (Value.ref b :: [v1, v2, v3, v4]).toArray) (fun H locs ls hH hL => ?_) kk
  have hcb := cn_of (h' := h') (mc' := mc') (ms' := ms') hC hoc hl hR hh' hm
  unfold Sp at hsp
  rw [hn] at hcb hsp
  exact va_runIN (As := [v1, v2, v3, v4]) (fx_of hC) hsp ⟨hcb, hoi.1, hts_of hC _ hoi.2⟩ (ps_of hC hH) rfl rfl hL.1 rfl (rmw hw) hd ⟨by rw [hR]; exact hc, by rw [hR]; exact hs⟩
theorem g_callS4 (hC : Cx X own cc rt nm hh) {d : MD} {idx h' mc' ms' h0 mc0 ms0 : Nat} {post' : Option Value → AH → Prop} {v1 v2 v3 v4 : Value} (hsp : Sp X.l X.K d h' mc' ms' [v1, v2, v3, v4] M post') (hoc : okC d 4) (hos : okS d) (hl : Cond.methodLink own idx d.1 ∈ TBL) (hR : X.R = rmh h0 mc0 ms0) (hh' : h' + 1 ≤ h0) (hm : d.2.2.1 ≤ 41) (hc : cs + mc' ≤ mc0) (hs : sl + ms' ≤ ms0) (hw : (st.map fun v => v.category).sum ≤ 8) (hd : dn cc pc (.invokestatic idx) 3 pc') (kk : ∀ (r : Option Value) (M' : AH), post' r M' → G X (cs + mc') (sl + ms') M' pc' L (r.toList ++ st)) : G X cs sl M pc L (v4 :: v3 :: v2 :: v1 :: st) := by
  obtain ⟨hd, rfl⟩ := hd
  refine g_run (mc' := mc') (ms' := ms') (rest := st) (post' := post') (a := ([v1, v2, v3, v4] : List Value).toArray) (fun H locs ls hH hL => ?_) kk
  exact va_runS (As := [v1, v2, v3, v4]) (fx_of hC) hsp ⟨cb_of hC hoc hl hR hh' hm, hts_of hC _ hos⟩ (ps_of hC hH) rfl rfl hL.1 rfl (rmw hw) hd ⟨by rw [hR]; exact hc, by rw [hR]; exact hs⟩
theorem g_callV5 (hC : Cx X own cc rt nm hh) {d : MD} {idx h' mc' ms' h0 mc0 ms0 : Nat} {post' : Option Value → AH → Prop} {v1 v2 v3 v4 v5 : Value} {b ci : Nat} {fs : List Value} (hsp : Sp X.l X.K d h' mc' ms' (.ref b :: [v1, v2, v3, v4, v5]) M post') (hoc : okC d 5) (hov : okV d) (hl : Cond.methodLink own idx d.1 ∈ TBL) (hb : M.1 b = some (oO ci fs)) (hci : classes[ci]?.map (·.1) = some d.1.cls) (hR : X.R = rmh h0 mc0 ms0) (hh' : h' + 1 ≤ h0) (hm : d.2.2.1 ≤ 41) (hc : cs + mc' ≤ mc0) (hs : sl + ms' ≤ ms0) (hw : (st.map fun v => v.category).sum ≤ 8) (hd : dn cc pc (.invokevirtual idx) 3 pc') (kk : ∀ (r : Option Value) (M' : AH), post' r M' → G X (cs + mc') (sl + ms') M' pc' L (r.toList ++ st)) : G X cs sl M pc L (v5 :: v4 :: v3 :: v2 :: v1 :: .ref b :: st) := by
  obtain ⟨hd, rfl⟩ := hd
  refine g_run (mc' := mc') (ms' := ms') (rest := st) (post' := post') (a := (Value.ref b :: [v1, v2, v3, v4, v5]).toArray) (fun H locs ls hH hL => ?_) kk
  exact va_runV (As := [v1, v2, v3, v4, v5]) (fx_of hC) hsp ⟨cb_of hC hoc hl hR hh' hm, hts_of hC _ hov.1, hts_of hC _ hov.2⟩ (pv_of hC hb hci hH) rfl rfl hL.1 rfl (rmw hw) hd ⟨by rw [hR]; exact hc, by rw [hR]; exact hs⟩
theorem g_callI5 (hC : Cx X own cc rt nm hh) {d : MD} {idx h' mc' ms' h0 mc0 ms0 : Nat} {post' : Option Value → AH → Prop} {v1 v2 v3 v4 v5 : Value} {b : Nat} (hsp : Sp X.l X.K d h' mc' ms' (.ref b :: [v1, v2, v3, v4, v5]) M post') (hoc : okC d 5) (hoi : okI d) (hn : d.2.2.2 = none) (hl : Cond.methodLink own idx d.1 ∈ TBL) (hR : X.R = rmh h0 mc0 ms0) (hh' : h' + 1 ≤ h0) (hm : d.2.2.1 ≤ 41) (hc : cs + mc' ≤ mc0) (hs : sl + ms' ≤ ms0) (hw : (st.map fun v => v.category).sum ≤ 8) (hd : dn cc pc (.invokespecial idx) 3 pc') (kk : ∀ (r : Option Value) (M' : AH), post' r M' → G X (cs + mc') (sl + ms') M' pc' L (r.toList ++ st)) : G X cs sl M pc L (v5 :: v4 :: v3 :: v2 :: v1 :: .ref b :: st) := by
  obtain ⟨hd, rfl⟩ := hd
  refine g_run (mc' := mc') (ms' := ms') (rest := st) (post' := post') (a := (Value.ref b :: [v1, v2, v3, v4, v5]).toArray) (fun H locs ls hH hL => ?_) kk
  have hcb := cb_of (h' := h') (mc' := mc') (ms' := ms') hC hoc hl hR hh' hm
  unfold Sp at hsp
  rw [hn] at hcb hsp
  exact va_runI (As := [v1, v2, v3, v4, v5]) (fx_of hC) hsp ⟨hcb, hoi.1, hts_of hC _ hoi.2⟩ (ps_of hC hH) rfl rfl hL.1 rfl (rmw hw) hd ⟨by rw [hR]; exact hc, by rw [hR]; exact hs⟩
theorem g_callVN5 (hC : Cx X own cc rt nm hh) {d : MD} {idx h' mc' ms' h0 mc0 ms0 : Nat} {post' : Option Value → AH → Prop} {host : String} {v1 v2 v3 v4 v5 : Value} {b ci : Nat} {fs : List Value} (hsp : Sp X.l X.K d h' mc' ms' (.ref b :: [v1, v2, v3, v4, v5]) M post') (hoc : okC d 5) (hov : okV d) (hl : Cond.methodLinkNest own idx d.1 host ∈ TBL) (hb : M.1 b = some (oO ci fs)) (hci : classes[ci]?.map (·.1) = some d.1.cls) (hR : X.R = rmh h0 mc0 ms0) (hh' : h' + 1 ≤ h0) (hm : d.2.2.1 ≤ 41) (hc : cs + mc' ≤ mc0) (hs : sl + ms' ≤ ms0) (hw : (st.map fun v => v.category).sum ≤ 8) (hd : dn cc pc (.invokevirtual idx) 3 pc') (kk : ∀ (r : Option Value) (M' : AH), post' r M' → G X (cs + mc') (sl + ms') M' pc' L (r.toList ++ st)) : G X cs sl M pc L (v5 :: v4 :: v3 :: v2 :: v1 :: .ref b :: st) := by
  obtain ⟨hd, rfl⟩ := hd
  refine g_run (mc' := mc') (ms' := ms') (rest := st) (post' := post') (a := (Value.ref b :: [v1, v2, v3, v4, v5]).toArray) (fun H locs ls hH hL => ?_) kk
  exact va_runVN (As := [v1, v2, v3, v4, v5]) (fx_of hC) hsp ⟨cn_of hC hoc hl hR hh' hm, hts_of hC _ hov.1, hts_of hC _ hov.2⟩ (pv_of hC hb hci hH) rfl rfl hL.1 rfl (rmw hw) hd ⟨by rw [hR]; exact hc, by rw [hR]; exact hs⟩
theorem g_callIN5 (hC : Cx X own cc rt nm hh) {d : MD} {idx h' mc' ms' h0 mc0 ms0 : Nat} {post' : Option Value → AH → Prop} {host : String} {v1 v2 v3 v4 v5 : Value} {b : Nat} (hsp : Sp X.l X.K d h' mc' ms' (.ref b :: [v1, v2, v3, v4, v5]) M post') (hoc : okC d 5) (hoi : okI d) (hn : d.2.2.2 = none) (hl : Cond.methodLinkNest own idx d.1 host ∈ TBL) (hR : X.R = rmh h0 mc0 ms0) (hh' : h' + 1 ≤ h0) (hm : d.2.2.1 ≤ 41) (hc : cs + mc' ≤ mc0) (hs : sl + ms' ≤ ms0) (hw : (st.map fun v => v.category).sum ≤ 8) (hd : dn cc pc (.invokespecial idx) 3 pc') (kk : ∀ (r : Option Value) (M' : AH), post' r M' → G X (cs + mc') (sl + ms') M' pc' L (r.toList ++ st)) : G X cs sl M pc L (v5 :: v4 :: v3 :: v2 :: v1 :: .ref b :: st) := by
  obtain ⟨hd, rfl⟩ := hd
  refine g_run (mc' := mc') (ms' := ms') (rest := st) (post' := post') (a := (Value.ref b :: [v1, v2, v3, v4, v5]).toArray) (fun H locs ls hH hL => ?_) kk
  have hcb := cn_of (h' := h') (mc' := mc') (ms' := ms') hC hoc hl hR hh' hm
  unfold Sp at hsp
  rw [hn] at hcb hsp
  exact va_runIN (As := [v1, v2, v3, v4, v5]) (fx_of hC) hsp ⟨hcb, hoi.1, hts_of hC _ hoi.2⟩ (ps_of hC hH) rfl rfl hL.1 rfl (rmw hw) hd ⟨by rw [hR]; exact hc, by rw [hR]; exact hs⟩
theorem g_callS5 (hC : Cx X own cc rt nm hh) {d : MD} {idx h' mc' ms' h0 mc0 ms0 : Nat} {post' : Option Value → AH → Prop} {v1 v2 v3 v4 v5 : Value} (hsp : Sp X.l X.K d h' mc' ms' [v1, v2, v3, v4, v5] M post') (hoc : okC d 5) (hos : okS d) (hl : Cond.methodLink own idx d.1 ∈ TBL) (hR : X.R = rmh h0 mc0 ms0) (hh' : h' + 1 ≤ h0) (hm : d.2.2.1 ≤ 41) (hc : cs + mc' ≤ mc0) (hs : sl + ms' ≤ ms0) (hw : (st.map fun v => v.category).sum ≤ 8) (hd : dn cc pc (.invokestatic idx) 3 pc') (kk : ∀ (r : Option Value) (M' : AH), post' r M' → G X (cs + mc') (sl + ms') M' pc' L (r.toList ++ st)) : G X cs sl M pc L (v5 :: v4 :: v3 :: v2 :: v1 :: st) := by
  obtain ⟨hd, rfl⟩ := hd
  refine g_run (mc' := mc') (ms' := ms') (rest := st) (post' := post') (a := ([v1, v2, v3, v4, v5] : List Value).toArray) (fun H locs ls hH hL => ?_) kk
  exact va_runS (As := [v1, v2, v3, v4, v5]) (fx_of hC) hsp ⟨cb_of hC hoc hl hR hh' hm, hts_of hC _ hos⟩ (ps_of hC hH) rfl rfl hL.1 rfl (rmw hw) hd ⟨by rw [hR]; exact hc, by rw [hR]; exact hs⟩
theorem g_callV6 (hC : Cx X own cc rt nm hh) {d : MD} {idx h' mc' ms' h0 mc0 ms0 : Nat} {post' : Option Value → AH → Prop} {v1 v2 v3 v4 v5 v6 : Value} {b ci : Nat} {fs : List Value} (hsp : Sp X.l X.K d h' mc' ms' (.ref b :: [v1, v2, v3, v4, v5, v6]) M post') (hoc : okC d 6) (hov : okV d) (hl : Cond.methodLink own idx d.1 ∈ TBL) (hb : M.1 b = some (oO ci fs)) (hci : classes[ci]?.map (·.1) = some d.1.cls) (hR : X.R = rmh h0 mc0 ms0) (hh' : h' + 1 ≤ h0) (hm : d.2.2.1 ≤ 41) (hc : cs + mc' ≤ mc0) (hs : sl + ms' ≤ ms0) (hw : (st.map fun v => v.category).sum ≤ 8) (hd : dn cc pc (.invokevirtual idx) 3 pc') (kk : ∀ (r : Option Value) (M' : AH), post' r M' → G X (cs + mc') (sl + ms') M' pc' L (r.toList ++ st)) : G X cs sl M pc L (v6 :: v5 :: v4 :: v3 :: v2 :: v1 :: .ref b :: st) := by
  obtain ⟨hd, rfl⟩ := hd
  refine g_run (mc' := mc') (ms' := ms') (rest := st) (post' := post') (a := (Value.ref b :: [v1, v2, v3, v4, v5, v6]).toArray) (fun H locs ls hH hL => ?_) kk
  exact va_runV (As := [v1, v2, v3, v4, v5, v6]) (fx_of hC) hsp ⟨cb_of hC hoc hl hR hh' hm, hts_of hC _ hov.1, hts_of hC _ hov.2⟩ (pv_of hC hb hci hH) rfl rfl hL.1 rfl (rmw hw) hd ⟨by rw [hR]; exact hc, by rw [hR]; exact hs⟩
theorem g_callI6 (hC : Cx X own cc rt nm hh) {d : MD} {idx h' mc' ms' h0 mc0 ms0 : Nat} {post' : Option Value → AH → Prop} {v1 v2 v3 v4 v5 v6 : Value} {b : Nat} (hsp : Sp X.l X.K d h' mc' ms' (.ref b :: [v1, v2, v3, v4, v5, v6]) M post') (hoc : okC d 6) (hoi : okI d) (hn : d.2.2.2 = none) (hl : Cond.methodLink own idx d.1 ∈ TBL) (hR : X.R = rmh h0 mc0 ms0) (hh' : h' + 1 ≤ h0) (hm : d.2.2.1 ≤ 41) (hc : cs + mc' ≤ mc0) (hs : sl + ms' ≤ ms0) (hw : (st.map fun v => v.category).sum ≤ 8) (hd : dn cc pc (.invokespecial idx) 3 pc') (kk : ∀ (r : Option Value) (M' : AH), post' r M' → G X (cs + mc') (sl + ms') M' pc' L (r.toList ++ st)) : G X cs sl M pc L (v6 :: v5 :: v4 :: v3 :: v2 :: v1 :: .ref b :: st) := by
  obtain ⟨hd, rfl⟩ := hd
  refine g_run (mc' := mc') (ms' := ms') (rest := st) (post' := post') (a := (Value.ref b :: [v1, v2, v3, v4, v5, v6]).toArray) (fun H locs ls hH hL => ?_) kk
  have hcb := cb_of (h' := h') (mc' := mc') (ms' := ms') hC hoc hl hR hh' hm
  unfold Sp at hsp
  rw [hn] at hcb hsp
  exact va_runI (As := [v1, v2, v3, v4, v5, v6]) (fx_of hC) hsp ⟨hcb, hoi.1, hts_of hC _ hoi.2⟩ (ps_of hC hH) rfl rfl hL.1 rfl (rmw hw) hd ⟨by rw [hR]; exact hc, by rw [hR]; exact hs⟩
theorem g_callVN6 (hC : Cx X own cc rt nm hh) {d : MD} {idx h' mc' ms' h0 mc0 ms0 : Nat} {post' : Option Value → AH → Prop} {host : String} {v1 v2 v3 v4 v5 v6 : Value} {b ci : Nat} {fs : List Value} (hsp : Sp X.l X.K d h' mc' ms' (.ref b :: [v1, v2, v3, v4, v5, v6]) M post') (hoc : okC d 6) (hov : okV d) (hl : Cond.methodLinkNest own idx d.1 host ∈ TBL) (hb : M.1 b = some (oO ci fs)) (hci : classes[ci]?.map (·.1) = some d.1.cls) (hR : X.R = rmh h0 mc0 ms0) (hh' : h' + 1 ≤ h0) (hm : d.2.2.1 ≤ 41) (hc : cs + mc' ≤ mc0) (hs : sl + ms' ≤ ms0) (hw : (st.map fun v => v.category).sum ≤ 8) (hd : dn cc pc (.invokevirtual idx) 3 pc') (kk : ∀ (r : Option Value) (M' : AH), post' r M' → G X (cs + mc') (sl + ms') M' pc' L (r.toList ++ st)) : G X cs sl M pc L (v6 :: v5 :: v4 :: v3 :: v2 :: v1 :: .ref b :: st) := by
  obtain ⟨hd, rfl⟩ := hd
  refine g_run (mc' := mc') (ms' := ms') (rest := st) (post' := post') (a := (Value.ref b :: [v1, v2, v3, v4, v5, v6]).toArray) (fun H locs ls hH hL => ?_) kk
  exact va_runVN (As := [v1, v2, v3, v4, v5, v6]) (fx_of hC) hsp ⟨cn_of hC hoc hl hR hh' hm, hts_of hC _ hov.1, hts_of hC _ hov.2⟩ (pv_of hC hb hci hH) rfl rfl hL.1 rfl (rmw hw) hd ⟨by rw [hR]; exact hc, by rw [hR]; exact hs⟩
theorem g_callIN6 (hC : Cx X own cc rt nm hh) {d : MD} {idx h' mc' ms' h0 mc0 ms0 : Nat} {post' : Option Value → AH → Prop} {host : String} {v1 v2 v3 v4 v5 v6 : Value} {b : Nat} (hsp : Sp X.l X.K d h' mc' ms' (.ref b :: [v1, v2, v3, v4, v5, v6]) M post') (hoc : okC d 6) (hoi : okI d) (hn : d.2.2.2 = none) (hl : Cond.methodLinkNest own idx d.1 host ∈ TBL) (hR : X.R = rmh h0 mc0 ms0) (hh' : h' + 1 ≤ h0) (hm : d.2.2.1 ≤ 41) (hc : cs + mc' ≤ mc0) (hs : sl + ms' ≤ ms0) (hw : (st.map fun v => v.category).sum ≤ 8) (hd : dn cc pc (.invokespecial idx) 3 pc') (kk : ∀ (r : Option Value) (M' : AH), post' r M' → G X (cs + mc') (sl + ms') M' pc' L (r.toList ++ st)) : G X cs sl M pc L (v6 :: v5 :: v4 :: v3 :: v2 :: v1 :: .ref b :: st) := by
  obtain ⟨hd, rfl⟩ := hd
  refine g_run (mc' := mc') (ms' := ms') (rest := st) (post' := post') (a := (Value.ref b :: [v1, v2, v3, v4, v5, v6]).toArray) (fun H locs ls hH hL => ?_) kk
  have hcb := cn_of (h' := h') (mc' := mc') (ms' := ms') hC hoc hl hR hh' hm
  unfold Sp at hsp
  rw [hn] at hcb hsp
  exact va_runIN (As := [v1, v2, v3, v4, v5, v6]) (fx_of hC) hsp ⟨hcb, hoi.1, hts_of hC _ hoi.2⟩ (ps_of hC hH) rfl rfl hL.1 rfl (rmw hw) hd ⟨by rw [hR]; exact hc, by rw [hR]; exact hs⟩
theorem g_callS6 (hC : Cx X own cc rt nm hh) {d : MD} {idx h' mc' ms' h0 mc0 ms0 : Nat} {post' : Option Value → AH → Prop} {v1 v2 v3 v4 v5 v6 : Value} (hsp : Sp X.l X.K d h' mc' ms' [v1, v2, v3, v4, v5, v6] M post') (hoc : okC d 6) (hos : okS d) (hl : Cond.methodLink own idx d.1 ∈ TBL) (hR : X.R = rmh h0 mc0 ms0) (hh' : h' + 1 ≤ h0) (hm : d.2.2.1 ≤ 41) (hc : cs + mc' ≤ mc0) (hs : sl + ms' ≤ ms0) (hw : (st.map fun v => v.category).sum ≤ 8) (hd : dn cc pc (.invokestatic idx) 3 pc') (kk : ∀ (r : Option Value) (M' : AH), post' r M' → G X (cs + mc') (sl + ms') M' pc' L (r.toList ++ st)) : G X cs sl M pc L (v6 :: v5 :: v4 :: v3 :: v2 :: v1 :: st) := by
  obtain ⟨hd, rfl⟩ := hd
  refine g_run (mc' := mc') (ms' := ms') (rest := st) (post' := post') (a := ([v1, v2, v3, v4, v5, v6] : List Value).toArray) (fun H locs ls hH hL => ?_) kk
  exact va_runS (As := [v1, v2, v3, v4, v5, v6]) (fx_of hC) hsp ⟨cb_of hC hoc hl hR hh' hm, hts_of hC _ hos⟩ (ps_of hC hH) rfl rfl hL.1 rfl (rmw hw) hd ⟨by rw [hR]; exact hc, by rw [hR]; exact hs⟩
end GCALL
