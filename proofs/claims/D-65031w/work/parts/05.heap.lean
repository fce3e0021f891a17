/-! heap rows, contracts, calls -/
theorem at_I {D : va_G} {cl : List vw_C} {K : KC} {a n : Nat} {f : Int → Int} {H : Heap} : va_at D cl (a, oI K n f) H ↔ H[a]? = some (arrV (kI K) n (fun j => .int (Int32.ofInt (f (j : Int))))) := Iff.rfl
theorem at_J {D : va_G} {cl : List vw_C} {K : KC} {a n : Nat} {f : Int → Int} {H : Heap} : va_at D cl (a, oJ K n f) H ↔ H[a]? = some (arrV (kJ K) n (fun j => .long (Int64.ofInt (f (j : Int))))) := Iff.rfl
theorem at_R {D : va_G} {cl : List vw_C} {K : KC} {a n : Nat} {g : Nat → Option Nat} {H : Heap} : va_at D cl (a, oR K n g) H ↔ H[a]? = some (arrV (kR K) n (fun j => va_rf (g j))) := Iff.rfl
theorem cell_I (K : KC) (n : Nat) (f : Int → Int) : vp_cell (kI K) (n, .inl (fun j => Int32.ofInt (f (j : Int)))) = arrV (kI K) n (fun j => .int (Int32.ofInt (f (j : Int)))) := rfl
theorem st_I (K : KC) (n : Nat) (f : Int → Int) {i : Int} (h0 : 0 ≤ i) (x : Int) : (arrV (kI K) n (fun j => .int (Int32.ofInt (f (j : Int))))).setSlot i.toNat (.int (Int32.ofInt x)) = arrV (kI K) n (fun j => .int (Int32.ofInt (up f i x (j : Int)))) := by
  rw [arrV_store]
  congr 1
  funext q
  unfold updV up
  by_cases hq : q = i.toNat
  · rw [if_pos hq, if_pos (by omega)]
  · rw [if_neg hq, if_neg (by omega)]
theorem st_J (K : KC) (n : Nat) (f : Int → Int) {i : Int} (h0 : 0 ≤ i) (x : Int) : (arrV (kJ K) n (fun j => .long (Int64.ofInt (f (j : Int))))).setSlot i.toNat (.long (Int64.ofInt x)) = arrV (kJ K) n (fun j => .long (Int64.ofInt (up f i x (j : Int)))) := by
  rw [arrV_store]
  congr 1
  funext q
  unfold updV up
  by_cases hq : q = i.toNat
  · rw [if_pos hq, if_pos (by omega)]
  · rw [if_neg hq, if_neg (by omega)]
def upr (g : Nat → Option Nat) (k : Nat) (x : Option Nat) : Nat → Option Nat := fun j => if j = k then x else g j
theorem st_R (K : KC) (n : Nat) (g : Nat → Option Nat) (i : Nat) (x : Option Nat) : (arrV (kR K) n (fun j => va_rf (g j))).setSlot i (va_rf x) = arrV (kR K) n (fun j => va_rf (upr g i x j)) := by
  rw [arrV_store]
  congr 1
  funext q
  unfold updV upr
  by_cases hq : q = i
  · rw [if_pos hq, if_pos hq]
  · rw [if_neg hq, if_neg hq]
theorem cpos {i : Int} {n : Nat} (h0 : 0 ≤ i) (h : i < n) (hn : n ≤ 2147483647) : (Int32.ofInt i).toNatClampNeg = i.toNat := cl32 h0 (by omega)
section GHEAP
variable {X : CT} {cs sl : Nat} {M : AH} {pc pc' : Nat} {L : List (Option Value)} {st : List Value} {own : String} {cc : ByteArray} {rt : Option FieldType} {nm : String} {hh : Bool}
theorem hts_of (hC : Cx X own cc rt nm hh) : ∀ w ∈ TBL, w.before X.args X.s = true := hC.2.2.2.2.1
theorem ok_of (hC : Cx X own cc rt nm hh) : KOk X.K X.s := hC.2.2.2.2.2.1
theorem own_of (hC : Cx X own cc rt nm hh) : X.s.vm.findClass own = some X.m.cls := hC.2.2.2.1
theorem ml_of (hC : Cx X own cc rt nm hh) : X.c.maxLocals = X.nL := hC.2.2.1
theorem lk_of (hC : Cx X own cc rt nm hh) : X.meth.locks = false := hC.2.2.2.2.2.2.1
theorem rt_of (hC : Cx X own cc rt nm hh) : X.meth.sig.returnType = rt := hC.2.2.2.2.2.2.2.1
theorem nm_of (hC : Cx X own cc rt nm hh) : X.meth.name = nm := hC.2.2.2.2.2.2.2.2.1
theorem bs_of (hC : Cx X own cc rt nm hh) : kB X.K ≤ X.s.heap.size := hC.2.2.2.2.2.2.2.2.2.1
theorem same_of {ref C n d : String} {args : Array Value} {s : State} (h : ref = C ∨ Cond.sameField ref C n d ∈ TBL) (hts : ∀ w ∈ TBL, w.before args s = true) (x : ClassId × Class × Nat × Field) (hx : s.fieldFound? C n d = some x) : s.fieldFound? ref n d = some x := by
  rcases h with h | h
  · subst h; exact hx
  · exact u_same (hts _ h) x hx
theorem locs_app {K : KC} {locs : List Loc} {a i : Nat} (h : ∀ x ∈ locs, kB K ≤ x.base) (ha : kB K ≤ a) : ∀ x ∈ locs ++ [⟨a, i⟩], kB K ≤ x.base := by
  intro x hx
  rcases List.mem_append.mp hx with h1 | h1
  · exact h x h1
  · rw [List.mem_singleton] at h1; subst h1; exact ha
theorem g_get (hC : Cx X own cc rt nm hh) {idx ci k : Nat} {ty : FieldType} {fin : Bool} (fb : FB own idx ci k ty fin) {a : Nat} {fs : List Value} (hM : M.1 a = some (oO ci fs)) {v : Value} (hv : fs[k]? = some v) (hd : dn cc pc (.getfield idx) 3 pc') (kk : G X cs sl M pc' L (v :: st)) : G X cs sl M pc L (.ref a :: st) := by
  obtain ⟨hd, rfl⟩ := hd
  obtain ⟨C, T, N, t0, ref, ⟨c1, c2, c3, c4⟩, f1, f2, f3, f4, f5, f6⟩ := fb
  intro H locs ls hH hl hL
  refine va_get (ws := [(a, oO ci fs)]) hC.1 hC.2.1 (hts_of hC) c2 (own_of hC) (ok_of hC).1 (fun k' q hq => ?_) 0 rfl c1 k f1 (hts_of hC _ f5) (same_of f6 (hts_of hC)) hv hd (kk H locs ls hH hl hL)
  have hz : k' < 1 := (List.getElem?_eq_some_iff.mp hq).1
  rw [show k' = 0 by omega] at hq
  cases hq
  exact (hH.2.2.2 a _ hM).2.2
theorem g_getN (hC : Cx X own cc rt nm hh) {idx ci k N : Nat} {C ref host : String} {T : u_T} {t0 : Nat → FieldType} (ck : CK ci C T N t0) (hk : k < N) (hw : Cond.fieldLinkNest own idx ref (T k).2.1 (T k).2.2.1 host ∈ TBL) (hr : ref = (T k).1) {a : Nat} {fs : List Value} (hM : M.1 a = some (oO ci fs)) {v : Value} (hv : fs[k]? = some v) (hd : dn cc pc (.getfield idx) 3 pc') (kk : G X cs sl M pc' L (v :: st)) : G X cs sl M pc L (.ref a :: st) := by
  obtain ⟨hd, rfl⟩ := hd
  obtain ⟨c1, c2, c3, c4⟩ := ck
  intro H locs ls hH hl hL
  refine va_getN (ws := [(a, oO ci fs)]) hC.1 hC.2.1 (hts_of hC) c2 (own_of hC) (ok_of hC).1 (fun k' q hq => ?_) 0 rfl c1 k hk (hts_of hC _ hw) (fun x hx => by rw [hr]; exact hx) hv hd (kk H locs ls hH hl hL)
  have hz : k' < 1 := (List.getElem?_eq_some_iff.mp hq).1
  rw [show k' = 0 by omega] at hq
  cases hq
  exact (hH.2.2.2 a _ hM).2.2
theorem base_of {K : KC} {M : AH} {H : Heap} (hH : hd K M H) {a : Nat} {ci : Nat} {fs : List Value} (hM : M.1 a = some (oO ci fs)) : kB K ≤ a := by
  rcases (hH.2.2.2 a _ hM).2.1 with h | h
  · exact h
  · cases h
theorem base_I {K : KC} {M : AH} {H : Heap} (hH : hd K M H) {a n : Nat} {f : Int → Int} (hM : M.1 a = some (oI K n f)) : kB K ≤ a := by
  rcases (hH.2.2.2 a _ hM).2.1 with h | h
  · exact h
  · simp [oI, oR] at h
theorem base_J {K : KC} {M : AH} {H : Heap} (hH : hd K M H) {a n : Nat} {f : Int → Int} (hM : M.1 a = some (oJ K n f)) : kB K ≤ a := by
  rcases (hH.2.2.2 a _ hM).2.1 with h | h
  · exact h
  · simp [oJ, oR] at h
theorem base_R {K : KC} {M : AH} {H : Heap} (hH : hd K M H) {a n : Nat} {g : Nat → Option Nat} (hM : M.1 a = some (oR K n g)) (hn : 0 < n) : kB K ≤ a := by
  rcases (hH.2.2.2 a _ hM).2.1 with h | h
  · exact h
  · unfold oR at h
    injection h with h
    injection h with h1 h2
    injection h2 with h3 h4
    omega
theorem g_put (hC : Cx X own cc rt nm hh) {idx ci k : Nat} {ty : FieldType} (fb : FB own idx ci k ty false) {a : Nat} {fs : List Value} (hM : M.1 a = some (oO ci fs)) {v : Value} (hn : narrow ty v = v) (hf : fits ty v = true) (hl : k < fs.length) (hd : dn cc pc (.putfield idx) 3 pc') (kk : G X cs sl (ups M a (oO ci (fs.set k v))) pc' L st) : G X cs sl M pc L (v :: .ref a :: st) := by
  obtain ⟨hd, rfl⟩ := hd
  obtain ⟨C, T, N, t0, ref, ⟨c1, c2, c3, c4⟩, f1, f2, f3, f4, f5, f6⟩ := fb
  intro H locs ls hH hlo hL
  have hap := va_apart (own := own) (hts_of hC) c2 t0 c3 c4 (ok_of hC).1 c1
  obtain ⟨r, h1, cell, q1, q2, q3, q4⟩ := (hH.2.2.2 a _ hM).2.2
  have hr : r = (C, T, N) := Option.some.inj (h1.symm.trans c1)
  subst hr
  obtain ⟨hS, hfc, kC, hkC, hkind⟩ := (ok_of hC).1.1 ci _ c1
  obtain ⟨cf, kf, fi, f, hi, hsl⟩ := hS k f1
  have hlay := hts_of hC _ (c2 _ (u_in_lay f1))
  unfold u_lay at hlay
  rw [if_neg (by rw [f3]; decide)] at hlay
  have hst := (u_facts hfc hkC (u_lays (hts_of hC) c2 f1) hi).1
  have h6 := u_store hfc hkC hkind hlay hi (by rw [← f2]; exact c3 k f1) hn hf
  refine W.putK hC.1 hC.2.1 (f := f) ⟨own_of hC, hts_of hC _ f5, ⟨_, _, _, same_of f6 (hts_of hC) _ hi⟩, hst⟩ (by rw [q2]; exact h6) q1 q3 (by rw [hsl]; exact k2_hasslot (q4 k f1)) rfl rfl hd fun H' e1 e2 e3 => ?_
  rw [hsl] at e1 ⊢
  exact kk H' _ ls (hd_ups hH hM (base_of hH hM) ⟨_, c1, t_OB.to (V := updV (vp_V fs) k v) ⟨_, e1, q2, q3, t_set q4 hap f1 v⟩ (fun j _ => vp_updV_set hl v j)⟩ e2 e3) (locs_app hlo (base_of hH hM)) hL
theorem g_putF (hC : Cx X own cc rt "<init>" hh) {idx ci k : Nat} {ty : FieldType} (fb : FB own idx ci k ty true) (hown : classes[ci]?.map (·.1) = some own) {a : Nat} {fs : List Value} (hM : M.1 a = some (oO ci fs)) {v : Value} (hn : narrow ty v = v) (hf : fits ty v = true) (hl : k < fs.length) (hd : dn cc pc (.putfield idx) 3 pc') (kk : G X cs sl (ups M a (oO ci (fs.set k v))) pc' L st) : G X cs sl M pc L (v :: .ref a :: st) := by
  obtain ⟨hd, rfl⟩ := hd
  obtain ⟨C, T, N, t0, ref, ⟨c1, c2, c3, c4⟩, f1, f2, f3, f4, f5, f6⟩ := fb
  rw [c1] at hown
  have hCo : C = own := Option.some.inj hown
  intro H locs ls hH hlo hL
  have hap := va_apart (own := own) (hts_of hC) c2 t0 c3 c4 (ok_of hC).1 c1
  obtain ⟨r, h1, cell, q1, q2, q3, q4⟩ := (hH.2.2.2 a _ hM).2.2
  have hr : r = (C, T, N) := Option.some.inj (h1.symm.trans c1)
  subst hr
  obtain ⟨hS, hfc, kC, hkC, hkind⟩ := (ok_of hC).1.1 ci _ c1
  obtain ⟨cf, kf, fi, f, hi, hsl⟩ := hS k f1
  have hlay := hts_of hC _ (c2 _ (u_in_lay f1))
  unfold u_lay at hlay
  rw [if_pos f3] at hlay
  have hst := (u_facts hfc hkC (u_lays (hts_of hC) c2 f1) hi).1
  have hcf : X.m.cls = cf := by
    obtain ⟨_, _, c', _, _, _, -, -, hf', -, -, -, hown2, -⟩ := Cond.laysFinal_spec hlay
    have e1 : c' = cf := by have := hi.symm.trans hf'; simp at this; exact this.1.symm
    rw [f4 rfl, hCo] at hown2
    rw [← e1]; exact Option.some.inj ((own_of hC).symm.trans hown2)
  have h6 := u_fits hfc hkC hkind (Or.inr hlay) hi (by rw [← f2]; exact c3 k f1) hn hf
  refine W.putFinK hC.1 hC.2.1 (own_of hC) (hts_of hC _ f5) (same_of f6 (hts_of hC) _ hi) hst hcf (nm_of hC) (by rw [q2]; exact h6) q1 q3 (by rw [hsl]; exact k2_hasslot (q4 k f1)) rfl rfl hd fun H' e1 e2 e3 => ?_
  rw [hsl] at e1 ⊢
  exact kk H' _ ls (hd_ups hH hM (base_of hH hM) ⟨_, c1, t_OB.to (V := updV (vp_V fs) k v) ⟨_, e1, q2, q3, t_set q4 hap f1 v⟩ (fun j _ => vp_updV_set hl v j)⟩ e2 e3) (locs_app hlo (base_of hH hM)) hL
theorem g_new (hC : Cx X own cc rt nm hh) {idx ci N : Nat} {C : String} {T : u_T} {t0 : Nat → FieldType} (ck : CK ci C T N t0) (h1 : Cond.classLink own idx C ∈ TBL) (h2 : Cond.instantiable C N ∈ TBL) (h3 : Cond.initialized C ∈ TBL) {fs : List Value} (hfs : ∀ j, j < N → defaultValue (t0 j) = vp_V fs j) (hc : cs + 1 ≤ X.R.cells) (hs : sl + N ≤ X.R.slots) (hd : dn cc pc (.new idx) 3 pc') (kk : G X (cs + 1) (sl + N) (nws M (oO ci fs)) pc' L (.ref M.2 :: st)) : G X cs sl M pc L st := by
  obtain ⟨hd, rfl⟩ := hd
  obtain ⟨c1, c2, c3, c4⟩ := ck
  intro H locs ls hH hlo hL
  have hKn := (ok_of hC).1.1 ci _ c1
  refine W.newcK hC.1 hC.2.1 (own_of hC) (hts_of hC _ h1) (hts_of hC _ h2) (hts_of hC _ h3) rfl hd hc hs hKn.2.1 hH.1 fun H1 kC hkC e1 z1 o1 => ?_
  exact kk H1 locs ls (hd_nws hH ⟨_, c1, (u_born t0 (hts_of hC) c2 hKn hkC e1 c3).to hfs⟩ z1 o1) hlo hL
theorem aI (hC : Cx X own cc rt nm hh) : ArrOfT X.s (kI X.K) .int ∧ va_RA X.s (kI X.K) .int := (ok_of hC).1.2 0 _ rfl
theorem aJ (hC : Cx X own cc rt nm hh) : ArrOfT X.s (kJ X.K) .long ∧ va_RA X.s (kJ X.K) .long := (ok_of hC).1.2 1 _ rfl
theorem aR (hC : Cx X own cc rt nm hh) : ArrOfT X.s (kR X.K) (.object "java/lang/Object") ∧ va_RA X.s (kR X.K) (.object "java/lang/Object") := (ok_of hC).1.2 2 _ rfl
theorem g_newI (hC : Cx X own cc rt nm hh) (hw : Cond.arrayClass .int ∈ TBL) {i : Int} {n : Nat} (hi : i = n) (hn : n ≤ 100000000) (hc : cs + 1 ≤ X.R.cells) (hs : sl + n ≤ X.R.slots) (hd : dn cc pc (.newarray .int) 2 pc') (kk : G X (cs + 1) (sl + n) (nws M (oI X.K n (fun _ => 0))) pc' L (.ref M.2 :: st)) : G X cs sl M pc L (iv i :: st) := by
  obtain ⟨hd, rfl⟩ := hd
  intro H locs ls hH hlo hL
  refine va_newaK (atype := .int) hC.1 hC.2.1 (hts_of hC _ hw) rfl hd rfl (N := n) (by rw [i_lt0 ⟨by omega, by omega⟩]; omega) (by rw [cl32 (by omega) (by omega)]; omega) (by show n * 4 ≤ _; omega) hc hs hH.1 fun H1 cA e1 z1 o1 hAr hNm => ?_
  have hcA : cA = kI X.K := Option.some.inj (hNm.symm.trans (aI hC).2)
  subst hcA
  refine kk H1 locs ls (hd_nws hH ?_ z1 o1) hlo hL
  exact at_I.mpr e1
theorem g_newJ (hC : Cx X own cc rt nm hh) (hw : Cond.arrayClass .long ∈ TBL) {i : Int} {n : Nat} (hi : i = n) (hn : n ≤ 10000000) (hc : cs + 1 ≤ X.R.cells) (hs : sl + n ≤ X.R.slots) (hd : dn cc pc (.newarray .long) 2 pc') (kk : G X (cs + 1) (sl + n) (nws M (oJ X.K n (fun _ => 0))) pc' L (.ref M.2 :: st)) : G X cs sl M pc L (iv i :: st) := by
  obtain ⟨hd, rfl⟩ := hd
  intro H locs ls hH hlo hL
  refine va_newaK (atype := .long) hC.1 hC.2.1 (hts_of hC _ hw) rfl hd rfl (N := n) (by rw [i_lt0 ⟨by omega, by omega⟩]; omega) (by rw [cl32 (by omega) (by omega)]; omega) (by show n * 8 ≤ _; omega) hc hs hH.1 fun H1 cA e1 z1 o1 hAr hNm => ?_
  have hcA : cA = kJ X.K := Option.some.inj (hNm.symm.trans (aJ hC).2)
  subst hcA
  refine kk H1 locs ls (hd_nws hH ?_ z1 o1) hlo hL
  exact at_J.mpr e1
theorem g_newR (hC : Cx X own cc rt nm hh) {idx : Nat} (h1 : Cond.classLink own idx "java/lang/Object" ∈ TBL) (h2 : Cond.arrayOver (.object "java/lang/Object") ∈ TBL) {i : Int} {n : Nat} (hi : i = n) (hn : n ≤ 100000000) (hc : cs + 1 ≤ X.R.cells) (hs : sl + n ≤ X.R.slots) (hd : dn cc pc (.anewarray idx) 3 pc') (kk : G X (cs + 1) (sl + n) (nws M (oR X.K n (fun _ => none))) pc' L (.ref M.2 :: st)) : G X cs sl M pc L (iv i :: st) := by
  obtain ⟨hd, rfl⟩ := hd
  intro H locs ls hH hlo hL
  have hcl : (Int32.ofInt i).toNatClampNeg = n := by rw [cl32 (by omega) (by omega)]; omega
  refine W.anew hC.1 hC.2.1 (own_of hC) (hts_of hC _ h1) (hts_of hC _ h2) rfl hd rfl (by rw [i_lt0 ⟨by omega, by omega⟩]; omega) (by rw [hcl]; omega) hc (by rw [hcl]; exact hs) fun cA kA comp f1 f2 f3 f4 => ?_
  obtain ⟨kA', comp', g1, g2, g3, g4⟩ := (aR hC).2
  have hcA : cA = kR X.K := Option.some.inj (f1.symm.trans g4)
  subst hcA
  rw [hcl, hH.1]
  refine kk _ locs ls (hd_nws hH ?_ ?_ ?_) hlo hL
  · rw [at_R, ← hH.1]
    show _ = some (arrV (kR X.K) n (fun _ => .null))
    rw [← arrV_new]
    simp
  · simp [hH.1]
  · intro q hq
    rw [Array.getElem?_push, if_neg (by rw [hH.1]; omega)]
theorem g_iald (hC : Cx X own cc rt nm hh) {a n : Nat} {f : Int → Int} (hM : M.1 a = some (oI X.K n f)) {i : Int} (h0 : 0 ≤ i) (h1 : i < n) (hn : n ≤ 2147483647) (hd : dn cc pc .iaload 1 pc') (kk : G X cs sl M pc' L (iv (f i) :: st)) : G X cs sl M pc L (iv i :: .ref a :: st) := by
  obtain ⟨hd, rfl⟩ := hd
  intro H locs ls hH hlo hL
  have hc := cpos h0 h1 hn
  refine W.iald (v := iv (f i)) hC.1 hC.2.1 (at_I.mp (hH.2.2.2 a _ hM).2.2) ((aI hC).1 n (fun j => .int (Int32.ofInt (f (j : Int))))) (fun q => by cases q) ?_ ?_ rfl rfl hd (kk H locs ls hH hlo hL)
  · rw [arrV_size]; exact vin h0 h1 hn
  · rw [hc, arrV_read _ _ (by omega)]
    rw [show ((i.toNat : Nat) : Int) = i by omega]; rfl
theorem g_lald (hC : Cx X own cc rt nm hh) {a n : Nat} {f : Int → Int} (hM : M.1 a = some (oJ X.K n f)) {i : Int} (h0 : 0 ≤ i) (h1 : i < n) (hn : n ≤ 2147483647) (hd : dn cc pc .laload 1 pc') (kk : G X cs sl M pc' L (jv (f i) :: st)) : G X cs sl M pc L (iv i :: .ref a :: st) := by
  obtain ⟨hd, rfl⟩ := hd
  intro H locs ls hH hlo hL
  have hc := cpos h0 h1 hn
  refine W.lald (v := jv (f i)) hC.1 hC.2.1 (at_J.mp (hH.2.2.2 a _ hM).2.2) ((aJ hC).1 n (fun j => .long (Int64.ofInt (f (j : Int))))) (fun q => by cases q) ?_ ?_ rfl rfl hd (kk H locs ls hH hlo hL)
  · rw [arrV_size]; exact vin h0 h1 hn
  · rw [hc, arrV_read _ _ (by omega)]
    rw [show ((i.toNat : Nat) : Int) = i by omega]; rfl
theorem g_aald (hC : Cx X own cc rt nm hh) {a n : Nat} {g : Nat → Option Nat} (hM : M.1 a = some (oR X.K n g)) {i : Int} (h0 : 0 ≤ i) (h1 : i < n) (hn : n ≤ 2147483647) {r : Option Nat} (hr : g i.toNat = r) (hd : dn cc pc .aaload 1 pc') (kk : G X cs sl M pc' L (va_rf r :: st)) : G X cs sl M pc L (iv i :: .ref a :: st) := by
  obtain ⟨hd, rfl⟩ := hd
  subst hr
  intro H locs ls hH hlo hL
  have hc := cpos h0 h1 hn
  refine W.aald (v := va_rf (g i.toNat)) (ty := .object "java/lang/Object") hC.1 hC.2.1 (at_R.mp (hH.2.2.2 a _ hM).2.2) ((aR hC).1 n (fun j => va_rf (g j))) rfl (fun q => by cases q) ?_ ?_ rfl rfl hd (kk H locs ls hH hlo hL)
  · rw [arrV_size]; exact vin h0 h1 hn
  · rw [hc, arrV_read _ _ (by omega)]
theorem g_iast (hC : Cx X own cc rt nm hh) {a n : Nat} {f : Int → Int} (hM : M.1 a = some (oI X.K n f)) {i x : Int} (h0 : 0 ≤ i) (h1 : i < n) (hn : n ≤ 2147483647) (hd : dn cc pc .iastore 1 pc') (kk : G X cs sl (ups M a (oI X.K n (up f i x))) pc' L st) : G X cs sl M pc L (iv x :: iv i :: .ref a :: st) := by
  obtain ⟨hd, rfl⟩ := hd
  intro H locs ls hH hlo hL
  have hc := cpos h0 h1 hn
  refine W.iast hC.1 hC.2.1 (at_I.mp (hH.2.2.2 a _ hM).2.2) ((aI hC).1 n (fun j => .int (Int32.ofInt (f (j : Int))))) (fun q => by cases q) ?_ rfl rfl hd fun H1 e z oq => ?_
  · rw [arrV_size]; exact vin h0 h1 hn
  · refine kk H1 _ ls (hd_ups hH hM (base_I hH hM) ?_ z oq) (locs_app hlo (base_I hH hM)) hL
    rw [at_I, e, hc]
    exact congrArg some (st_I X.K n f h0 x)
theorem g_last (hC : Cx X own cc rt nm hh) {a n : Nat} {f : Int → Int} (hM : M.1 a = some (oJ X.K n f)) {i x : Int} (h0 : 0 ≤ i) (h1 : i < n) (hn : n ≤ 2147483647) (hd : dn cc pc .lastore 1 pc') (kk : G X cs sl (ups M a (oJ X.K n (up f i x))) pc' L st) : G X cs sl M pc L (jv x :: iv i :: .ref a :: st) := by
  obtain ⟨hd, rfl⟩ := hd
  intro H locs ls hH hlo hL
  have hc := cpos h0 h1 hn
  refine W.last hC.1 hC.2.1 (at_J.mp (hH.2.2.2 a _ hM).2.2) ((aJ hC).1 n (fun j => .long (Int64.ofInt (f (j : Int))))) (fun q => by cases q) ?_ rfl rfl hd fun H1 e z oq => ?_
  · rw [arrV_size]; exact vin h0 h1 hn
  · refine kk H1 _ ls (hd_ups hH hM (base_J hH hM) ?_ z oq) (locs_app hlo (base_J hH hM)) hL
    rw [at_J, e, hc]
    exact congrArg some (st_J X.K n f h0 x)
theorem g_aast (hC : Cx X own cc rt nm hh) {a n : Nat} {g : Nat → Option Nat} (hM : M.1 a = some (oR X.K n g)) {q ci : Nat} {fs : List Value} {C : String} {T : u_T} {N : Nat} {t0 : Nat → FieldType} (ck : CK ci C T N t0) (hw : Cond.castable C "java/lang/Object" ∈ TBL) (hq : M.1 q = some (oO ci fs)) {i : Int} (h0 : 0 ≤ i) (h1 : i < n) (hn : n ≤ 2147483647) (hd : dn cc pc .aastore 1 pc') (kk : G X cs sl (ups M a (oR X.K n (upr g i.toNat (some q)))) pc' L st) : G X cs sl M pc L (.ref q :: iv i :: .ref a :: st) := by
  obtain ⟨hd, rfl⟩ := hd
  intro H locs ls hH hlo hL
  have hc := cpos h0 h1 hn
  have hb := base_R hH hM (by omega)
  obtain ⟨r, r1, cellV, g1, g2, g3, -⟩ := (hH.2.2.2 q _ hq).2.2
  obtain ⟨hfc, kC, hkC, hkind⟩ := ((ok_of hC).1.1 ci _ ck.1).2
  obtain ⟨kA, comp, k1, k2, k3, -⟩ := (aR hC).2
  obtain ⟨kE, hkE, -⟩ := Vm.findClass_spec k3
  obtain ⟨c0, t1, f1, f2, f3⟩ := Cond.castable_spec (hts_of hC _ hw)
  cases hfc.symm.trans f1
  cases k3.symm.trans f2
  refine W.aast hC.1 hC.2.1 (at_R.mp (hH.2.2.2 a _ hM).2.2) (fun q h => by cases h) (fun h => by cases h) k1 k2 rfl hkE ⟨?_, ?_⟩ g1 (fun q h => by rw [g3] at h; cases h) (by rw [g2]; exact hkC) (by rw [g2]; exact f3) rfl rfl hd fun H1 e z oq => ?_
  · rw [i_lt0 ⟨by omega, by omega⟩]; omega
  · rw [arrV_size, hc]; omega
  · refine kk H1 _ ls (hd_ups hH hM hb ?_ z oq) (locs_app hlo hb) hL
    rw [at_R, e, hc]
    exact congrArg some (st_R X.K n g i.toNat (some q))
theorem g_alenI (hC : Cx X own cc rt nm hh) {a n : Nat} {f : Int → Int} (hM : M.1 a = some (oI X.K n f)) (hd : dn cc pc .arraylength 1 pc') (kk : G X cs sl M pc' L (iv n :: st)) : G X cs sl M pc L (.ref a :: st) := by
  obtain ⟨hd, rfl⟩ := hd
  intro H locs ls hH hlo hL
  refine W.alen (n := Int32.ofInt n) hC.1 hC.2.1 (at_I.mp (hH.2.2.2 a _ hM).2.2) ((aI hC).1 n (fun j => .int (Int32.ofInt (f (j : Int))))) ?_ rfl rfl hd (kk H locs ls hH hlo hL)
  rw [arrV_size]; rfl
theorem g_alenR (hC : Cx X own cc rt nm hh) {a n : Nat} {g : Nat → Option Nat} (hM : M.1 a = some (oR X.K n g)) (hd : dn cc pc .arraylength 1 pc') (kk : G X cs sl M pc' L (iv n :: st)) : G X cs sl M pc L (.ref a :: st) := by
  obtain ⟨hd, rfl⟩ := hd
  intro H locs ls hH hlo hL
  refine W.alen (n := Int32.ofInt n) hC.1 hC.2.1 (at_R.mp (hH.2.2.2 a _ hM).2.2) ((aR hC).1 n (fun j => va_rf (g j))) ?_ rfl rfl hd (kk H locs ls hH hlo hL)
  rw [arrV_size]; rfl
theorem g_castY (hC : Cx X own cc rt nm hh) {a ci idx : Nat} {fs : List Value} {C : String} {T : u_T} {N : Nat} {t0 : Nat → FieldType} (ck : CK ci C T N t0) (hw : Cond.classLink own idx C ∈ TBL) (hM : M.1 a = some (oO ci fs)) (hd : dn cc pc (.checkcast idx) 3 pc') (kk : G X cs sl M pc' L (.ref a :: st)) : G X cs sl M pc L (.ref a :: st) := by
  obtain ⟨hd, rfl⟩ := hd
  intro H locs ls hH hlo hL
  obtain ⟨r, r1, cellV, g1, g2, g3, -⟩ := (hH.2.2.2 a _ hM).2.2
  have hcA := ((ok_of hC).1.1 ci _ ck.1).2
  exact va_castS hC.1 hC.2.1 (own_of hC) (hts_of hC _ hw) hcA ⟨cellV, g1, by rw [g3]; rfl, by rw [g2]; exact hcA.1⟩ hd (kk H locs ls hH hlo hL)
theorem g_gets (hC : Cx X own cc rt nm hh) {idx : Nat} (hw : Cond.fieldLink own idx "java/util/ArrayList" "DEFAULTCAPACITY_EMPTY_ELEMENTDATA" "[Ljava/lang/Object;" ∈ TBL) (hd : dn cc pc (.getstatic idx) 3 pc') (kk : G X cs sl M pc' L (.ref (kE X.K) :: st)) : G X cs sl M pc L st := by
  obtain ⟨hd, rfl⟩ := hd
  intro H locs ls hH hlo hL
  obtain ⟨cf, kf, fi, f, a, cell, h1, h2, h3, h4, h5, h6, h7, h8⟩ := (ok_of hC).2.1 { X.s with heap := H } (Vm.Alike.refl _) hH.2.2.1 (by show _ ≤ H.size; rw [hH.1]; exact hH.2.1)
  exact W.gets hC.1 hC.2.1 (own_of hC) (hts_of hC _ hw) h1 h2 h3 h4 h5 (fun e => by rw [e] at h6; cases h6) h7 rfl hd (kk H locs ls hH hlo hL)
theorem g_objInit (hC : Cx X own cc rt nm hh) {idx a : Nat} (h1 : Cond.methodLink own idx m_Obj_init.1 ∈ TBL) (hf : 1 ≤ X.R.frames) (hr : (st.map fun v => v.category).sum + 12 ≤ X.R.locals) (hd : dn cc pc (.invokespecial idx) 3 pc') (kk : G X cs sl M pc' L st) : G X cs sl M pc L (.ref a :: st) := by
  obtain ⟨hd, rfl⟩ := hd
  intro H locs ls hH hlo hL
  refine W.objInit hC.1 hC.2.1 (own_of hC) (hts_of hC _ h1) (hts_of hC _ oi_Obj_init.2) (hts_of hC (.code objectInit ⟨#[0xb1]⟩ 1 none) (tb1 32 rfl)) rfl (by rw [ml_of hC]; exact hL.1) rfl hd hf ?_ (kk H locs ls hH hlo hL)
  show 2 * 0 + _ + 12 ≤ _
  omega
theorem g_wid {k n : Nat} (h1 : cs ≤ k) (h2 : sl ≤ n) (kk : G X k n M pc L st) : G X cs sl M pc L st := fun H locs ls hH hlo hL => W.widen h1 h2 (kk H locs ls hH hlo hL)
end GHEAP
