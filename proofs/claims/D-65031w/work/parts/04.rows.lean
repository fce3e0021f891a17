/-! rows: one instruction each, over G (printed by tools/gen_rows.py) -/
section GROWS
variable {X : CT} {cs sl : Nat} {M : AH} {pc pc' : Nat} {L : List (Option Value)} {st : List Value} {own : String} {cc : ByteArray} {rt : Option FieldType} {nm : String} {hh : Bool}
theorem g_iconst (hC : Cx X own cc rt nm hh) {n : Int} (hd : dn cc pc (.iconst n) 1 pc') (kk : G X cs sl M pc' L (iv n :: st)) : G X cs sl M pc L (st) := by
  obtain ⟨hd, rfl⟩ := hd
  intro H locs ls hH hl hL
  exact lv_iconst hC.1 hC.2.1 hd rfl (kk H locs ls hH hl hL)
theorem g_bipush (hC : Cx X own cc rt nm hh) {n : Int} (hv : (Int8.ofInt n).toInt32 = Int32.ofInt n) (hd : dn cc pc (.bipush n) 2 pc') (kk : G X cs sl M pc' L (iv n :: st)) : G X cs sl M pc L (st) := by
  obtain ⟨hd, rfl⟩ := hd
  intro H locs ls hH hl hL
  exact lv_bipush hC.1 hC.2.1 hd hv (kk H locs ls hH hl hL)
theorem g_sipush (hC : Cx X own cc rt nm hh) {n : Int} (hv : (Int16.ofInt n).toInt32 = Int32.ofInt n) (hd : dn cc pc (.sipush n) 3 pc') (kk : G X cs sl M pc' L (iv n :: st)) : G X cs sl M pc L (st) := by
  obtain ⟨hd, rfl⟩ := hd
  intro H locs ls hH hl hL
  exact lv_sipush hC.1 hC.2.1 hd hv (kk H locs ls hH hl hL)
theorem g_lconst (hC : Cx X own cc rt nm hh) {n : Fin 2} {z : Int} (hz : Int64.ofNat (n : Nat) = Int64.ofInt z) (hd : dn cc pc (.lconst n) 1 pc') (kk : G X cs sl M pc' L (jv z :: st)) : G X cs sl M pc L (st) := by
  obtain ⟨hd, rfl⟩ := hd
  intro H locs ls hH hl hL
  exact lv_lconst hC.1 hC.2.1 hd hz (kk H locs ls hH hl hL)
theorem g_null (hC : Cx X own cc rt nm hh)  (hd : dn cc pc (.aconst_null) 1 pc') (kk : G X cs sl M pc' L (.null :: st)) : G X cs sl M pc L (st) := by
  obtain ⟨hd, rfl⟩ := hd
  intro H locs ls hH hl hL
  exact lv_null hC.1 hC.2.1 hd (kk H locs ls hH hl hL)
theorem g_ldc (hC : Cx X own cc rt nm hh) {i : Nat} {v : Int32} {z : Int} (hw : Cond.constant own i v ∈ TBL) (hz : v = Int32.ofInt z) (hd : dn cc pc (.ldc i) 2 pc') (kk : G X cs sl M pc' L (iv z :: st)) : G X cs sl M pc L (st) := by
  obtain ⟨hd, rfl⟩ := hd
  intro H locs ls hH hl hL
  subst hz; exact lv_ldc hC.1 hC.2.1 hC.2.2.2.1 (hC.2.2.2.2.1 _ hw) hd (kk H locs ls hH hl hL)
theorem g_ldcw (hC : Cx X own cc rt nm hh) {i : Nat} {v : Int32} {z : Int} (hw : Cond.constant own i v ∈ TBL) (hz : v = Int32.ofInt z) (hd : dn cc pc (.ldc_w i) 3 pc') (kk : G X cs sl M pc' L (iv z :: st)) : G X cs sl M pc L (st) := by
  obtain ⟨hd, rfl⟩ := hd
  intro H locs ls hH hl hL
  subst hz; exact lv_ldcw hC.1 hC.2.1 hC.2.2.2.1 (hC.2.2.2.2.1 _ hw) hd (kk H locs ls hH hl hL)
theorem g_ldc2 (hC : Cx X own cc rt nm hh) {i : Nat} {v : Int64} {z : Int} (hw : Cond.constantLong own i v ∈ TBL) (hz : v = Int64.ofInt z) (hd : dn cc pc (.ldc2_w i) 3 pc') (kk : G X cs sl M pc' L (jv z :: st)) : G X cs sl M pc L (st) := by
  obtain ⟨hd, rfl⟩ := hd
  intro H locs ls hH hl hL
  subst hz; exact lv_ldc2 hC.1 hC.2.1 hC.2.2.2.1 (hC.2.2.2.2.1 _ hw) hd (kk H locs ls hH hl hL)
theorem g_iload_n (hC : Cx X own cc rt nm hh) {z : Int} {k : Fin 4} (hk : L[(k : Nat)]? = some (some (iv z))) (hd : dn cc pc (.iload_n k) 1 pc') (kk : G X cs sl M pc' L (iv z :: st)) : G X cs sl M pc L (st) := by
  obtain ⟨hd, rfl⟩ := hd
  intro H locs ls hH hl hL
  exact lv_iload_n hC.1 hC.2.1 hd rfl (lo_at hL hk) (kk H locs ls hH hl hL)
theorem g_iload (hC : Cx X own cc rt nm hh) {z : Int} {k : Nat} (hk : L[k]? = some (some (iv z))) (hd : dn cc pc (.iload k) 2 pc') (kk : G X cs sl M pc' L (iv z :: st)) : G X cs sl M pc L (st) := by
  obtain ⟨hd, rfl⟩ := hd
  intro H locs ls hH hl hL
  exact lv_iload hC.1 hC.2.1 hd (lo_at hL hk) (kk H locs ls hH hl hL)
theorem g_lload_n (hC : Cx X own cc rt nm hh) {z : Int} {k : Fin 4} (hk : L[(k : Nat)]? = some (some (jv z))) (hd : dn cc pc (.lload_n k) 1 pc') (kk : G X cs sl M pc' L (jv z :: st)) : G X cs sl M pc L (st) := by
  obtain ⟨hd, rfl⟩ := hd
  intro H locs ls hH hl hL
  exact lv_lload_n hC.1 hC.2.1 hd rfl (lo_at hL hk) (kk H locs ls hH hl hL)
theorem g_lload (hC : Cx X own cc rt nm hh) {z : Int} {k : Nat} (hk : L[k]? = some (some (jv z))) (hd : dn cc pc (.lload k) 2 pc') (kk : G X cs sl M pc' L (jv z :: st)) : G X cs sl M pc L (st) := by
  obtain ⟨hd, rfl⟩ := hd
  intro H locs ls hH hl hL
  exact lv_lload hC.1 hC.2.1 hd (lo_at hL hk) (kk H locs ls hH hl hL)
theorem g_aload_n (hC : Cx X own cc rt nm hh) {z : Nat} {k : Fin 4} (hk : L[(k : Nat)]? = some (some (.ref z))) (hd : dn cc pc (.aload_n k) 1 pc') (kk : G X cs sl M pc' L (.ref z :: st)) : G X cs sl M pc L (st) := by
  obtain ⟨hd, rfl⟩ := hd
  intro H locs ls hH hl hL
  exact lv_aload_n hC.1 hC.2.1 hd rfl (lo_at hL hk) (kk H locs ls hH hl hL)
theorem g_aload (hC : Cx X own cc rt nm hh) {z : Nat} {k : Nat} (hk : L[k]? = some (some (.ref z))) (hd : dn cc pc (.aload k) 2 pc') (kk : G X cs sl M pc' L (.ref z :: st)) : G X cs sl M pc L (st) := by
  obtain ⟨hd, rfl⟩ := hd
  intro H locs ls hH hl hL
  exact lv_aload hC.1 hC.2.1 hd (lo_at hL hk) (kk H locs ls hH hl hL)
theorem g_aload_nN (hC : Cx X own cc rt nm hh) {k : Fin 4} (hk : L[(k : Nat)]? = some (some (.null))) (hd : dn cc pc (.aload_n k) 1 pc') (kk : G X cs sl M pc' L (.null :: st)) : G X cs sl M pc L (st) := by
  obtain ⟨hd, rfl⟩ := hd
  intro H locs ls hH hl hL
  exact lv_aload_nN hC.1 hC.2.1 hd rfl (lo_at hL hk) (kk H locs ls hH hl hL)
theorem g_iadd (hC : Cx X own cc rt nm hh) {a b : Int} (hd : dn cc pc (.iadd) 1 pc') (kk : G X cs sl M pc' L (iv (a + b) :: st)) : G X cs sl M pc L (iv b :: iv a :: st) := by
  obtain ⟨hd, rfl⟩ := hd
  intro H locs ls hH hl hL
  refine lv_iadd hC.1 hC.2.1 hd ?_; rw [iadd_ok]; exact kk H locs ls hH hl hL
theorem g_isub (hC : Cx X own cc rt nm hh) {a b : Int} (hd : dn cc pc (.isub) 1 pc') (kk : G X cs sl M pc' L (iv (a - b) :: st)) : G X cs sl M pc L (iv b :: iv a :: st) := by
  obtain ⟨hd, rfl⟩ := hd
  intro H locs ls hH hl hL
  refine lv_isub hC.1 hC.2.1 hd ?_; rw [isub_ok]; exact kk H locs ls hH hl hL
theorem g_imul (hC : Cx X own cc rt nm hh) {a b : Int} (hd : dn cc pc (.imul) 1 pc') (kk : G X cs sl M pc' L (iv (a * b) :: st)) : G X cs sl M pc L (iv b :: iv a :: st) := by
  obtain ⟨hd, rfl⟩ := hd
  intro H locs ls hH hl hL
  refine lv_imul hC.1 hC.2.1 hd ?_; rw [imul_ok]; exact kk H locs ls hH hl hL
theorem g_ladd (hC : Cx X own cc rt nm hh) {a b : Int} (hd : dn cc pc (.ladd) 1 pc') (kk : G X cs sl M pc' L (jv (a + b) :: st)) : G X cs sl M pc L (jv b :: jv a :: st) := by
  obtain ⟨hd, rfl⟩ := hd
  intro H locs ls hH hl hL
  refine lv_ladd hC.1 hC.2.1 hd ?_; rw [ladd_ok]; exact kk H locs ls hH hl hL
theorem g_lsub (hC : Cx X own cc rt nm hh) {a b : Int} (hd : dn cc pc (.lsub) 1 pc') (kk : G X cs sl M pc' L (jv (a - b) :: st)) : G X cs sl M pc L (jv b :: jv a :: st) := by
  obtain ⟨hd, rfl⟩ := hd
  intro H locs ls hH hl hL
  refine lv_lsub hC.1 hC.2.1 hd ?_; rw [lsub_ok]; exact kk H locs ls hH hl hL
theorem g_lmul (hC : Cx X own cc rt nm hh) {a b : Int} (hd : dn cc pc (.lmul) 1 pc') (kk : G X cs sl M pc' L (jv (a * b) :: st)) : G X cs sl M pc L (jv b :: jv a :: st) := by
  obtain ⟨hd, rfl⟩ := hd
  intro H locs ls hH hl hL
  refine lv_lmul hC.1 hC.2.1 hd ?_; rw [lmul_ok]; exact kk H locs ls hH hl hL
theorem g_ineg (hC : Cx X own cc rt nm hh) {a : Int} (hd : dn cc pc (.ineg) 1 pc') (kk : G X cs sl M pc' L (iv (-a) :: st)) : G X cs sl M pc L (iv a :: st) := by
  obtain ⟨hd, rfl⟩ := hd
  intro H locs ls hH hl hL
  refine lv_ineg hC.1 hC.2.1 hd ?_; rw [ineg_ok]; exact kk H locs ls hH hl hL
theorem g_lneg (hC : Cx X own cc rt nm hh) {a : Int} (hd : dn cc pc (.lneg) 1 pc') (kk : G X cs sl M pc' L (jv (-a) :: st)) : G X cs sl M pc L (jv a :: st) := by
  obtain ⟨hd, rfl⟩ := hd
  intro H locs ls hH hl hL
  refine lv_lneg hC.1 hC.2.1 hd ?_; rw [lneg_ok]; exact kk H locs ls hH hl hL
theorem g_idiv (hC : Cx X own cc rt nm hh) {a b : Int} (ha : I32 a) (hb : I32 b) (h0 : 0 < b) (hd : dn cc pc (.idiv) 1 pc') (kk : G X cs sl M pc' L (iv (a.tdiv b) :: st)) : G X cs sl M pc L (iv b :: iv a :: st) := by
  obtain ⟨hd, rfl⟩ := hd
  intro H locs ls hH hl hL
  refine lv_idiv hC.1 hC.2.1 hd (ine0 hb h0) ?_; rw [idiv_ok ha hb h0]; exact kk H locs ls hH hl hL
theorem g_irem (hC : Cx X own cc rt nm hh) {a b : Int} (ha : I32 a) (hb : I32 b) (h0 : 0 < b) (hd : dn cc pc (.irem) 1 pc') (kk : G X cs sl M pc' L (iv (a.tmod b) :: st)) : G X cs sl M pc L (iv b :: iv a :: st) := by
  obtain ⟨hd, rfl⟩ := hd
  intro H locs ls hH hl hL
  refine lv_irem hC.1 hC.2.1 hd (ine0 hb h0) ?_; rw [irem_ok ha hb h0]; exact kk H locs ls hH hl hL
theorem g_ldiv (hC : Cx X own cc rt nm hh) {a b : Int} (ha : I64 a) (hb : I64 b) (h0 : 0 < b) (hd : dn cc pc (.ldiv) 1 pc') (kk : G X cs sl M pc' L (jv (a.tdiv b) :: st)) : G X cs sl M pc L (jv b :: jv a :: st) := by
  obtain ⟨hd, rfl⟩ := hd
  intro H locs ls hH hl hL
  refine lv_ldiv hC.1 hC.2.1 hd (lne0 hb h0) ?_; rw [ldiv_ok ha hb h0]; exact kk H locs ls hH hl hL
theorem g_lrem (hC : Cx X own cc rt nm hh) {a b : Int} (ha : I64 a) (hb : I64 b) (h0 : 0 < b) (hd : dn cc pc (.lrem) 1 pc') (kk : G X cs sl M pc' L (jv (a.tmod b) :: st)) : G X cs sl M pc L (jv b :: jv a :: st) := by
  obtain ⟨hd, rfl⟩ := hd
  intro H locs ls hH hl hL
  refine lv_lrem hC.1 hC.2.1 hd (lne0 hb h0) ?_; rw [lrem_ok ha hb h0]; exact kk H locs ls hH hl hL
theorem g_i2l (hC : Cx X own cc rt nm hh) {a : Int} (ha : I32 a) (hd : dn cc pc (.i2l) 1 pc') (kk : G X cs sl M pc' L (jv a :: st)) : G X cs sl M pc L (iv a :: st) := by
  obtain ⟨hd, rfl⟩ := hd
  intro H locs ls hH hl hL
  exact lv_i2l hC.1 hC.2.1 hd (i2l_ok ha) (kk H locs ls hH hl hL)
theorem g_l2i (hC : Cx X own cc rt nm hh) {a : Int} (hd : dn cc pc (.l2i) 1 pc') (kk : G X cs sl M pc' L (iv a :: st)) : G X cs sl M pc L (jv a :: st) := by
  obtain ⟨hd, rfl⟩ := hd
  intro H locs ls hH hl hL
  exact lv_l2i hC.1 hC.2.1 hd (l2i_ok a) (kk H locs ls hH hl hL)
theorem g_dup (hC : Cx X own cc rt nm hh) {v : Value} (hv : v.category = 1) (hd : dn cc pc (.dup) 1 pc') (kk : G X cs sl M pc' L (v :: v :: st)) : G X cs sl M pc L (v :: st) := by
  obtain ⟨hd, rfl⟩ := hd
  intro H locs ls hH hl hL
  exact lv_dup hC.1 hC.2.1 hd hv (kk H locs ls hH hl hL)
theorem g_pop (hC : Cx X own cc rt nm hh) {v : Value} (hv : v.category = 1) (hd : dn cc pc (.pop) 1 pc') (kk : G X cs sl M pc' L (st)) : G X cs sl M pc L (v :: st) := by
  obtain ⟨hd, rfl⟩ := hd
  intro H locs ls hH hl hL
  exact lv_pop hC.1 hC.2.1 hd hv (kk H locs ls hH hl hL)
theorem g_dup_x1 (hC : Cx X own cc rt nm hh) {v w : Value} (hv : v.category = 1) (hw : w.category = 1) (hd : dn cc pc (.dup_x1) 1 pc') (kk : G X cs sl M pc' L (v :: w :: v :: st)) : G X cs sl M pc L (v :: w :: st) := by
  obtain ⟨hd, rfl⟩ := hd
  intro H locs ls hH hl hL
  exact lv_dup_x1 hC.1 hC.2.1 hd hv hw (kk H locs ls hH hl hL)
theorem g_dup_x2 (hC : Cx X own cc rt nm hh) {v w u : Value} (hv : v.category = 1) (hw : w.category = 1) (hu : u.category = 1) (hd : dn cc pc (.dup_x2) 1 pc') (kk : G X cs sl M pc' L (v :: w :: u :: v :: st)) : G X cs sl M pc L (v :: w :: u :: st) := by
  obtain ⟨hd, rfl⟩ := hd
  intro H locs ls hH hl hL
  exact lv_dup_x2 hC.1 hC.2.1 hd hv hw hu (kk H locs ls hH hl hL)
theorem g_dup2 (hC : Cx X own cc rt nm hh) {v w : Value} (hv : v.category = 1) (hw : w.category = 1) (hd : dn cc pc (.dup2) 1 pc') (kk : G X cs sl M pc' L (v :: w :: v :: w :: st)) : G X cs sl M pc L (v :: w :: st) := by
  obtain ⟨hd, rfl⟩ := hd
  intro H locs ls hH hl hL
  exact lv_dup2_11 hC.1 hC.2.1 hd hv hw (kk H locs ls hH hl hL)
theorem g_dup2L (hC : Cx X own cc rt nm hh) {v : Value} (hv : v.category = 2) (hd : dn cc pc (.dup2) 1 pc') (kk : G X cs sl M pc' L (v :: v :: st)) : G X cs sl M pc L (v :: st) := by
  obtain ⟨hd, rfl⟩ := hd
  intro H locs ls hH hl hL
  exact lv_dup2_2 hC.1 hC.2.1 hd hv (kk H locs ls hH hl hL)
theorem g_dup2_x1 (hC : Cx X own cc rt nm hh) {v w : Value} (hv : v.category = 2) (hw : w.category = 1) (hd : dn cc pc (.dup2_x1) 1 pc') (kk : G X cs sl M pc' L (v :: w :: v :: st)) : G X cs sl M pc L (v :: w :: st) := by
  obtain ⟨hd, rfl⟩ := hd
  intro H locs ls hH hl hL
  exact lv_dup2_x1_2 hC.1 hC.2.1 hd hv hw (kk H locs ls hH hl hL)
theorem g_pop2 (hC : Cx X own cc rt nm hh) {v : Value} (hv : v.category = 2) (hd : dn cc pc (.pop2) 1 pc') (kk : G X cs sl M pc' L (st)) : G X cs sl M pc L (v :: st) := by
  obtain ⟨hd, rfl⟩ := hd
  intro H locs ls hH hl hL
  exact lv_pop2_2 hC.1 hC.2.1 hd hv (kk H locs ls hH hl hL)
theorem g_if_eq (hC : Cx X own cc rt nm hh) {a : Int} {tgt : Nat} (ha : I32 a) (hd : db cc pc (.ifCond .eq) tgt pc') (kt : a = 0 → G X cs sl M tgt L st) (kf : ¬ a = 0 → G X cs sl M pc' L st) : G X cs sl M pc L (iv a :: st) := by
  obtain ⟨off, hd, ht, rfl⟩ := hd
  intro H locs ls hH hl hL
  exact lv_if_eq hC.1 hC.2.1 hd ht (fun c => kt ((i_eq0 ha).mp c) H locs ls hH hl hL) (fun c => kf (fun q => c ((i_eq0 ha).mpr q)) H locs ls hH hl hL)
theorem g_icmp_eq (hC : Cx X own cc rt nm hh) {a b : Int} {tgt : Nat} (ha : I32 a) (hb : I32 b) (hd : db cc pc (.if_icmp .eq) tgt pc') (kt : a = b → G X cs sl M tgt L st) (kf : ¬ a = b → G X cs sl M pc' L st) : G X cs sl M pc L (iv b :: iv a :: st) := by
  obtain ⟨off, hd, ht, rfl⟩ := hd
  intro H locs ls hH hl hL
  exact lv_icmp_eq hC.1 hC.2.1 hd ht (fun c => kt ((i_eq ha hb).mp c) H locs ls hH hl hL) (fun c => kf (fun q => c ((i_eq ha hb).mpr q)) H locs ls hH hl hL)
theorem g_if_ne (hC : Cx X own cc rt nm hh) {a : Int} {tgt : Nat} (ha : I32 a) (hd : db cc pc (.ifCond .ne) tgt pc') (kt : a ≠ 0 → G X cs sl M tgt L st) (kf : a = 0 → G X cs sl M pc' L st) : G X cs sl M pc L (iv a :: st) := by
  obtain ⟨off, hd, ht, rfl⟩ := hd
  intro H locs ls hH hl hL
  exact lv_if_ne hC.1 hC.2.1 hd ht (fun c => kt (((not_congr (i_eq0 ha))).mp c) H locs ls hH hl hL) (fun c => kf ((i_eq0 ha).mp c) H locs ls hH hl hL)
theorem g_icmp_ne (hC : Cx X own cc rt nm hh) {a b : Int} {tgt : Nat} (ha : I32 a) (hb : I32 b) (hd : db cc pc (.if_icmp .ne) tgt pc') (kt : a ≠ b → G X cs sl M tgt L st) (kf : a = b → G X cs sl M pc' L st) : G X cs sl M pc L (iv b :: iv a :: st) := by
  obtain ⟨off, hd, ht, rfl⟩ := hd
  intro H locs ls hH hl hL
  exact lv_icmp_ne hC.1 hC.2.1 hd ht (fun c => kt (((not_congr (i_eq ha hb))).mp c) H locs ls hH hl hL) (fun c => kf ((i_eq ha hb).mp c) H locs ls hH hl hL)
theorem g_if_lt (hC : Cx X own cc rt nm hh) {a : Int} {tgt : Nat} (ha : I32 a) (hd : db cc pc (.ifCond .lt) tgt pc') (kt : a < 0 → G X cs sl M tgt L st) (kf : ¬ a < 0 → G X cs sl M pc' L st) : G X cs sl M pc L (iv a :: st) := by
  obtain ⟨off, hd, ht, rfl⟩ := hd
  intro H locs ls hH hl hL
  exact lv_if_lt hC.1 hC.2.1 hd ht (fun c => kt ((i_lt0 ha).mp c) H locs ls hH hl hL) (fun c => kf (fun q => c ((i_lt0 ha).mpr q)) H locs ls hH hl hL)
theorem g_icmp_lt (hC : Cx X own cc rt nm hh) {a b : Int} {tgt : Nat} (ha : I32 a) (hb : I32 b) (hd : db cc pc (.if_icmp .lt) tgt pc') (kt : a < b → G X cs sl M tgt L st) (kf : ¬ a < b → G X cs sl M pc' L st) : G X cs sl M pc L (iv b :: iv a :: st) := by
  obtain ⟨off, hd, ht, rfl⟩ := hd
  intro H locs ls hH hl hL
  exact lv_icmp_lt hC.1 hC.2.1 hd ht (fun c => kt ((i_lt ha hb).mp c) H locs ls hH hl hL) (fun c => kf (fun q => c ((i_lt ha hb).mpr q)) H locs ls hH hl hL)
theorem g_if_ge (hC : Cx X own cc rt nm hh) {a : Int} {tgt : Nat} (ha : I32 a) (hd : db cc pc (.ifCond .ge) tgt pc') (kt : 0 ≤ a → G X cs sl M tgt L st) (kf : ¬ 0 ≤ a → G X cs sl M pc' L st) : G X cs sl M pc L (iv a :: st) := by
  obtain ⟨off, hd, ht, rfl⟩ := hd
  intro H locs ls hH hl hL
  exact lv_if_ge hC.1 hC.2.1 hd ht (fun c => kt ((i_0le ha).mp c) H locs ls hH hl hL) (fun c => kf (fun q => c ((i_0le ha).mpr q)) H locs ls hH hl hL)
theorem g_icmp_ge (hC : Cx X own cc rt nm hh) {a b : Int} {tgt : Nat} (ha : I32 a) (hb : I32 b) (hd : db cc pc (.if_icmp .ge) tgt pc') (kt : b ≤ a → G X cs sl M tgt L st) (kf : ¬ b ≤ a → G X cs sl M pc' L st) : G X cs sl M pc L (iv b :: iv a :: st) := by
  obtain ⟨off, hd, ht, rfl⟩ := hd
  intro H locs ls hH hl hL
  exact lv_icmp_ge hC.1 hC.2.1 hd ht (fun c => kt ((i_le hb ha).mp c) H locs ls hH hl hL) (fun c => kf (fun q => c ((i_le hb ha).mpr q)) H locs ls hH hl hL)
theorem g_if_gt (hC : Cx X own cc rt nm hh) {a : Int} {tgt : Nat} (ha : I32 a) (hd : db cc pc (.ifCond .gt) tgt pc') (kt : 0 < a → G X cs sl M tgt L st) (kf : ¬ 0 < a → G X cs sl M pc' L st) : G X cs sl M pc L (iv a :: st) := by
  obtain ⟨off, hd, ht, rfl⟩ := hd
  intro H locs ls hH hl hL
  exact lv_if_gt hC.1 hC.2.1 hd ht (fun c => kt ((i_0lt ha).mp c) H locs ls hH hl hL) (fun c => kf (fun q => c ((i_0lt ha).mpr q)) H locs ls hH hl hL)
theorem g_icmp_gt (hC : Cx X own cc rt nm hh) {a b : Int} {tgt : Nat} (ha : I32 a) (hb : I32 b) (hd : db cc pc (.if_icmp .gt) tgt pc') (kt : b < a → G X cs sl M tgt L st) (kf : ¬ b < a → G X cs sl M pc' L st) : G X cs sl M pc L (iv b :: iv a :: st) := by
  obtain ⟨off, hd, ht, rfl⟩ := hd
  intro H locs ls hH hl hL
  exact lv_icmp_gt hC.1 hC.2.1 hd ht (fun c => kt ((i_lt hb ha).mp c) H locs ls hH hl hL) (fun c => kf (fun q => c ((i_lt hb ha).mpr q)) H locs ls hH hl hL)
theorem g_if_le (hC : Cx X own cc rt nm hh) {a : Int} {tgt : Nat} (ha : I32 a) (hd : db cc pc (.ifCond .le) tgt pc') (kt : a ≤ 0 → G X cs sl M tgt L st) (kf : ¬ a ≤ 0 → G X cs sl M pc' L st) : G X cs sl M pc L (iv a :: st) := by
  obtain ⟨off, hd, ht, rfl⟩ := hd
  intro H locs ls hH hl hL
  exact lv_if_le hC.1 hC.2.1 hd ht (fun c => kt ((i_le0 ha).mp c) H locs ls hH hl hL) (fun c => kf (fun q => c ((i_le0 ha).mpr q)) H locs ls hH hl hL)
theorem g_icmp_le (hC : Cx X own cc rt nm hh) {a b : Int} {tgt : Nat} (ha : I32 a) (hb : I32 b) (hd : db cc pc (.if_icmp .le) tgt pc') (kt : a ≤ b → G X cs sl M tgt L st) (kf : ¬ a ≤ b → G X cs sl M pc' L st) : G X cs sl M pc L (iv b :: iv a :: st) := by
  obtain ⟨off, hd, ht, rfl⟩ := hd
  intro H locs ls hH hl hL
  exact lv_icmp_le hC.1 hC.2.1 hd ht (fun c => kt ((i_le ha hb).mp c) H locs ls hH hl hL) (fun c => kf (fun q => c ((i_le ha hb).mpr q)) H locs ls hH hl hL)
theorem g_goto (hC : Cx X own cc rt nm hh) {tgt : Nat} (hd : db cc pc .goto tgt pc') (kk : G X cs sl M tgt L st) : G X cs sl M pc L st := by
  obtain ⟨off, hd, ht, rfl⟩ := hd
  intro H locs ls hH hl hL
  exact lv_goto hC.1 hC.2.1 hd ht (kk H locs ls hH hl hL)
theorem lg_lt {a b : Int} (ha : I64 a) (hb : I64 b) : lg_cmp (Int64.ofInt a) (Int64.ofInt b) = Int32.ofInt (if b < a then 1 else if a = b then 0 else -1) := by
  unfold lg_cmp
  simp only [l_lt hb ha, l_eq ha hb]
  split
  · decide
  · split <;> decide
theorem lg_in (a b : Int) : I32 (if b < a then 1 else if a = b then 0 else -1) := by
  unfold I32; split <;> (try split) <;> omega
theorem g_lcmp (hC : Cx X own cc rt nm hh) {a b : Int} (ha : I64 a) (hb : I64 b) (hd : dn cc pc (.lcmp) 1 pc') (kk : G X cs sl M pc' L (iv (if b < a then 1 else if a = b then 0 else -1) :: st)) : G X cs sl M pc L (jv b :: jv a :: st) := by
  obtain ⟨hd, rfl⟩ := hd
  intro H locs ls hH hl hL
  refine W.lcmp hC.1 hC.2.1 hd ?_; rw [lg_lt ha hb]; exact kk H locs ls hH hl hL
theorem g_lif_eq (hC : Cx X own cc rt nm hh) {a b : Int} {tgt : Nat} (hd : db cc pc (.ifCond .eq) tgt pc') (kt : a = b → G X cs sl M tgt L st) (kf : ¬ (a = b) → G X cs sl M pc' L st) : G X cs sl M pc L (iv (if b < a then 1 else if a = b then 0 else -1) :: st) := by
  refine g_if_eq hC (lg_in a b) hd (fun c => kt ?_) (fun c => kf ?_)
  · revert c; split <;> (try split) <;> intro c <;> omega
  · revert c; split <;> (try split) <;> intro c <;> omega
theorem g_lif_ne (hC : Cx X own cc rt nm hh) {a b : Int} {tgt : Nat} (hd : db cc pc (.ifCond .ne) tgt pc') (kt : a ≠ b → G X cs sl M tgt L st) (kf : a = b → G X cs sl M pc' L st) : G X cs sl M pc L (iv (if b < a then 1 else if a = b then 0 else -1) :: st) := by
  refine g_if_ne hC (lg_in a b) hd (fun c => kt ?_) (fun c => kf ?_)
  · revert c; split <;> (try split) <;> intro c <;> omega
  · revert c; split <;> (try split) <;> intro c <;> omega
theorem g_lif_lt (hC : Cx X own cc rt nm hh) {a b : Int} {tgt : Nat} (hd : db cc pc (.ifCond .lt) tgt pc') (kt : a < b → G X cs sl M tgt L st) (kf : ¬ (a < b) → G X cs sl M pc' L st) : G X cs sl M pc L (iv (if b < a then 1 else if a = b then 0 else -1) :: st) := by
  refine g_if_lt hC (lg_in a b) hd (fun c => kt ?_) (fun c => kf ?_)
  · revert c; split <;> (try split) <;> intro c <;> omega
  · revert c; split <;> (try split) <;> intro c <;> omega
theorem g_lif_ge (hC : Cx X own cc rt nm hh) {a b : Int} {tgt : Nat} (hd : db cc pc (.ifCond .ge) tgt pc') (kt : b ≤ a → G X cs sl M tgt L st) (kf : ¬ (b ≤ a) → G X cs sl M pc' L st) : G X cs sl M pc L (iv (if b < a then 1 else if a = b then 0 else -1) :: st) := by
  refine g_if_ge hC (lg_in a b) hd (fun c => kt ?_) (fun c => kf ?_)
  · revert c; split <;> (try split) <;> intro c <;> omega
  · revert c; split <;> (try split) <;> intro c <;> omega
theorem g_lif_gt (hC : Cx X own cc rt nm hh) {a b : Int} {tgt : Nat} (hd : db cc pc (.ifCond .gt) tgt pc') (kt : b < a → G X cs sl M tgt L st) (kf : ¬ (b < a) → G X cs sl M pc' L st) : G X cs sl M pc L (iv (if b < a then 1 else if a = b then 0 else -1) :: st) := by
  refine g_if_gt hC (lg_in a b) hd (fun c => kt ?_) (fun c => kf ?_)
  · revert c; split <;> (try split) <;> intro c <;> omega
  · revert c; split <;> (try split) <;> intro c <;> omega
theorem g_lif_le (hC : Cx X own cc rt nm hh) {a b : Int} {tgt : Nat} (hd : db cc pc (.ifCond .le) tgt pc') (kt : a ≤ b → G X cs sl M tgt L st) (kf : ¬ (a ≤ b) → G X cs sl M pc' L st) : G X cs sl M pc L (iv (if b < a then 1 else if a = b then 0 else -1) :: st) := by
  refine g_if_le hC (lg_in a b) hd (fun c => kt ?_) (fun c => kf ?_)
  · revert c; split <;> (try split) <;> intro c <;> omega
  · revert c; split <;> (try split) <;> intro c <;> omega
theorem g_ifnullR (hC : Cx X own cc rt nm hh) {q : Nat} {off : Int} (hd : dn cc pc (.ifnull off) 3 pc') (kk : G X cs sl M pc' L (st)) : G X cs sl M pc L (.ref q :: st) := by
  obtain ⟨hd, rfl⟩ := hd
  intro H locs ls hH hl hL
  exact lv_ifnull hC.1 hC.2.1 hd (kk H locs ls hH hl hL)
theorem g_ifnonnullR (hC : Cx X own cc rt nm hh) {q tgt : Nat} (hd : db cc pc .ifnonnull tgt pc') (kk : G X cs sl M tgt L st) : G X cs sl M pc L (.ref q :: st) := by
  obtain ⟨off, hd, ht, rfl⟩ := hd
  intro H locs ls hH hl hL
  exact lv_ifnonnull hC.1 hC.2.1 hd ht (kk H locs ls hH hl hL)
theorem g_acmp_eq (hC : Cx X own cc rt nm hh) {q r : Nat} {tgt : Nat} (hd : db cc pc (.if_acmp .eq) tgt pc') (kt : q = r → G X cs sl M tgt L st) (kf : ¬ (q = r) → G X cs sl M pc' L st) : G X cs sl M pc L (.ref r :: .ref q :: st) := by
  obtain ⟨off, hd, ht, rfl⟩ := hd
  intro H locs ls hH hl hL
  exact lv_acmp_eq (rx := some q) (ry := some r) hC.1 hC.2.1 hd ht (fun c => kt (by first | exact Option.some.inj c | exact fun z => c (congrArg some z)) H locs ls hH hl hL) (fun c => kf (by first | exact Option.some.inj c | exact fun z => c (congrArg some z)) H locs ls hH hl hL)
theorem g_acmp_ne (hC : Cx X own cc rt nm hh) {q r : Nat} {tgt : Nat} (hd : db cc pc (.if_acmp .ne) tgt pc') (kt : q ≠ r → G X cs sl M tgt L st) (kf : q = r → G X cs sl M pc' L st) : G X cs sl M pc L (.ref r :: .ref q :: st) := by
  obtain ⟨off, hd, ht, rfl⟩ := hd
  intro H locs ls hH hl hL
  exact lv_acmp_ne (rx := some q) (ry := some r) hC.1 hC.2.1 hd ht (fun c => kt (by first | exact Option.some.inj c | exact fun z => c (congrArg some z)) H locs ls hH hl hL) (fun c => kf (by first | exact Option.some.inj c | exact fun z => c (congrArg some z)) H locs ls hH hl hL)
theorem g_fg0 {a0 : Option Value} (kk : G X cs sl M pc (none :: L) st) : G X cs sl M pc (a0 :: L) st :=
  fun H locs ls hH hl hL => kk H locs ls hH hl (lo_wk hL (fun k v hk => by
    match k, hk with
    | 0, hk => exact absurd hk (by simp)
    | k + 1, hk => exact hk))
theorem g_ist0 (hC : Cx X own cc rt nm hh) {a0 : Option Value} {z : Int} (hd : dn cc pc (.istore_n 0) 1 pc') (hp : ncl [] = true) (hn : 0 < X.nL) (kk : G X cs sl M pc' (some (iv z) :: L) st) : G X cs sl M pc (a0 :: L) (iv z :: st) := by
  obtain ⟨hd, rfl⟩ := hd
  intro H locs ls hH hl hL
  exact lv_istore_n hC.1 hC.2.1 hd rfl hL hn rfl (fun ls' h' => kk H locs ls' hH hl (lo_sub h' (st_sub1 (pre := []) (a := a0) hp)))
theorem g_ist0w (hC : Cx X own cc rt nm hh) {a0 : Option Value} {z : Int} (hd : dn cc pc (.istore 0) 2 pc') (hp : ncl [] = true) (hn : 0 < X.nL) (kk : G X cs sl M pc' (some (iv z) :: L) st) : G X cs sl M pc (a0 :: L) (iv z :: st) := by
  obtain ⟨hd, rfl⟩ := hd
  intro H locs ls hH hl hL
  exact lv_istore hC.1 hC.2.1 hd hL hn rfl (fun ls' h' => kk H locs ls' hH hl (lo_sub h' (st_sub1 (pre := []) (a := a0) hp)))
theorem g_ast0 (hC : Cx X own cc rt nm hh) {a0 : Option Value} {z : Nat} (hd : dn cc pc (.astore_n 0) 1 pc') (hp : ncl [] = true) (hn : 0 < X.nL) (kk : G X cs sl M pc' (some (.ref z) :: L) st) : G X cs sl M pc (a0 :: L) (.ref z :: st) := by
  obtain ⟨hd, rfl⟩ := hd
  intro H locs ls hH hl hL
  exact lv_astore_n hC.1 hC.2.1 hd rfl hL hn rfl (fun ls' h' => kk H locs ls' hH hl (lo_sub h' (st_sub1 (pre := []) (a := a0) hp)))
theorem g_ast0w (hC : Cx X own cc rt nm hh) {a0 : Option Value} {z : Nat} (hd : dn cc pc (.astore 0) 2 pc') (hp : ncl [] = true) (hn : 0 < X.nL) (kk : G X cs sl M pc' (some (.ref z) :: L) st) : G X cs sl M pc (a0 :: L) (.ref z :: st) := by
  obtain ⟨hd, rfl⟩ := hd
  intro H locs ls hH hl hL
  exact lv_astore hC.1 hC.2.1 hd hL hn rfl (fun ls' h' => kk H locs ls' hH hl (lo_sub h' (st_sub1 (pre := []) (a := a0) hp)))
theorem g_lst0 (hC : Cx X own cc rt nm hh) {a0 b : Option Value} {z : Int} (hd : dn cc pc (.lstore_n 0) 1 pc') (hp : ncl [] = true) (hn : 1 < X.nL) (kk : G X cs sl M pc' (some (jv z) :: none :: L) st) : G X cs sl M pc (a0 :: b :: L) (jv z :: st) := by
  obtain ⟨hd, rfl⟩ := hd
  intro H locs ls hH hl hL
  exact lv_lstore_n hC.1 hC.2.1 hd rfl hL hn rfl (fun ls' h' => kk H locs ls' hH hl (lo_sub h' (st_sub2 (pre := []) (a := a0) (b := b) hp)))
theorem g_lst0w (hC : Cx X own cc rt nm hh) {a0 b : Option Value} {z : Int} (hd : dn cc pc (.lstore 0) 2 pc') (hp : ncl [] = true) (hn : 1 < X.nL) (kk : G X cs sl M pc' (some (jv z) :: none :: L) st) : G X cs sl M pc (a0 :: b :: L) (jv z :: st) := by
  obtain ⟨hd, rfl⟩ := hd
  intro H locs ls hH hl hL
  exact lv_lstore hC.1 hC.2.1 hd hL hn rfl (fun ls' h' => kk H locs ls' hH hl (lo_sub h' (st_sub2 (pre := []) (a := a0) (b := b) hp)))
theorem g_inc0 (hC : Cx X own cc rt nm hh)  {z n : Int} (hd : dn cc pc (.iinc 0 n) 3 pc') (hp : ncl [] = true) (hn : 0 < X.nL) (kk : G X cs sl M pc' (some (iv (z + n)) :: L) st) : G X cs sl M pc (some (iv z) :: L) st := by
  obtain ⟨hd, rfl⟩ := hd
  intro H locs ls hH hl hL
  obtain ⟨j, hj⟩ := List.getElem?_of_mem (lp_mem (some (iv z) :: L) 0 0 (iv z) rfl)
  exact lv_iinc hC.1 hC.2.1 hd hL (k := j) (by rw [hj, Nat.zero_add]; rfl) (iadd_ok z n) hn rfl (fun ls' h' => kk H locs ls' hH hl (lo_sub h' (st_sub1 (pre := []) (a := some (iv z)) hp)))
theorem g_fg1 {a0 a1 : Option Value} (kk : G X cs sl M pc (a0 :: none :: L) st) : G X cs sl M pc (a0 :: a1 :: L) st :=
  fun H locs ls hH hl hL => kk H locs ls hH hl (lo_wk hL (fun k v hk => by
    match k, hk with
    | 0, hk => exact hk
    | 1, hk => exact absurd hk (by simp)
    | k + 2, hk => exact hk))
theorem g_ist1 (hC : Cx X own cc rt nm hh) {a0 a1 : Option Value} {z : Int} (hd : dn cc pc (.istore_n 1) 1 pc') (hp : ncl [a0] = true) (hn : 1 < X.nL) (kk : G X cs sl M pc' (a0 :: some (iv z) :: L) st) : G X cs sl M pc (a0 :: a1 :: L) (iv z :: st) := by
  obtain ⟨hd, rfl⟩ := hd
  intro H locs ls hH hl hL
  exact lv_istore_n hC.1 hC.2.1 hd rfl hL hn rfl (fun ls' h' => kk H locs ls' hH hl (lo_sub h' (st_sub1 (pre := [a0]) (a := a1) hp)))
theorem g_ist1w (hC : Cx X own cc rt nm hh) {a0 a1 : Option Value} {z : Int} (hd : dn cc pc (.istore 1) 2 pc') (hp : ncl [a0] = true) (hn : 1 < X.nL) (kk : G X cs sl M pc' (a0 :: some (iv z) :: L) st) : G X cs sl M pc (a0 :: a1 :: L) (iv z :: st) := by
  obtain ⟨hd, rfl⟩ := hd
  intro H locs ls hH hl hL
  exact lv_istore hC.1 hC.2.1 hd hL hn rfl (fun ls' h' => kk H locs ls' hH hl (lo_sub h' (st_sub1 (pre := [a0]) (a := a1) hp)))
theorem g_ast1 (hC : Cx X own cc rt nm hh) {a0 a1 : Option Value} {z : Nat} (hd : dn cc pc (.astore_n 1) 1 pc') (hp : ncl [a0] = true) (hn : 1 < X.nL) (kk : G X cs sl M pc' (a0 :: some (.ref z) :: L) st) : G X cs sl M pc (a0 :: a1 :: L) (.ref z :: st) := by
  obtain ⟨hd, rfl⟩ := hd
  intro H locs ls hH hl hL
  exact lv_astore_n hC.1 hC.2.1 hd rfl hL hn rfl (fun ls' h' => kk H locs ls' hH hl (lo_sub h' (st_sub1 (pre := [a0]) (a := a1) hp)))
theorem g_ast1w (hC : Cx X own cc rt nm hh) {a0 a1 : Option Value} {z : Nat} (hd : dn cc pc (.astore 1) 2 pc') (hp : ncl [a0] = true) (hn : 1 < X.nL) (kk : G X cs sl M pc' (a0 :: some (.ref z) :: L) st) : G X cs sl M pc (a0 :: a1 :: L) (.ref z :: st) := by
  obtain ⟨hd, rfl⟩ := hd
  intro H locs ls hH hl hL
  exact lv_astore hC.1 hC.2.1 hd hL hn rfl (fun ls' h' => kk H locs ls' hH hl (lo_sub h' (st_sub1 (pre := [a0]) (a := a1) hp)))
theorem g_lst1 (hC : Cx X own cc rt nm hh) {a0 a1 b : Option Value} {z : Int} (hd : dn cc pc (.lstore_n 1) 1 pc') (hp : ncl [a0] = true) (hn : 2 < X.nL) (kk : G X cs sl M pc' (a0 :: some (jv z) :: none :: L) st) : G X cs sl M pc (a0 :: a1 :: b :: L) (jv z :: st) := by
  obtain ⟨hd, rfl⟩ := hd
  intro H locs ls hH hl hL
  exact lv_lstore_n hC.1 hC.2.1 hd rfl hL hn rfl (fun ls' h' => kk H locs ls' hH hl (lo_sub h' (st_sub2 (pre := [a0]) (a := a1) (b := b) hp)))
theorem g_lst1w (hC : Cx X own cc rt nm hh) {a0 a1 b : Option Value} {z : Int} (hd : dn cc pc (.lstore 1) 2 pc') (hp : ncl [a0] = true) (hn : 2 < X.nL) (kk : G X cs sl M pc' (a0 :: some (jv z) :: none :: L) st) : G X cs sl M pc (a0 :: a1 :: b :: L) (jv z :: st) := by
  obtain ⟨hd, rfl⟩ := hd
  intro H locs ls hH hl hL
  exact lv_lstore hC.1 hC.2.1 hd hL hn rfl (fun ls' h' => kk H locs ls' hH hl (lo_sub h' (st_sub2 (pre := [a0]) (a := a1) (b := b) hp)))
theorem g_inc1 (hC : Cx X own cc rt nm hh) {a0 : Option Value} {z n : Int} (hd : dn cc pc (.iinc 1 n) 3 pc') (hp : ncl [a0] = true) (hn : 1 < X.nL) (kk : G X cs sl M pc' (a0 :: some (iv (z + n)) :: L) st) : G X cs sl M pc (a0 :: some (iv z) :: L) st := by
  obtain ⟨hd, rfl⟩ := hd
  intro H locs ls hH hl hL
  obtain ⟨j, hj⟩ := List.getElem?_of_mem (lp_mem (a0 :: some (iv z) :: L) 0 1 (iv z) rfl)
  exact lv_iinc hC.1 hC.2.1 hd hL (k := j) (by rw [hj, Nat.zero_add]; rfl) (iadd_ok z n) hn rfl (fun ls' h' => kk H locs ls' hH hl (lo_sub h' (st_sub1 (pre := [a0]) (a := some (iv z)) hp)))
theorem g_fg2 {a0 a1 a2 : Option Value} (kk : G X cs sl M pc (a0 :: a1 :: none :: L) st) : G X cs sl M pc (a0 :: a1 :: a2 :: L) st :=
  fun H locs ls hH hl hL => kk H locs ls hH hl (lo_wk hL (fun k v hk => by
    match k, hk with
    | 0, hk => exact hk
    | 1, hk => exact hk
    | 2, hk => exact absurd hk (by simp)
    | k + 3, hk => exact hk))
theorem g_ist2 (hC : Cx X own cc rt nm hh) {a0 a1 a2 : Option Value} {z : Int} (hd : dn cc pc (.istore_n 2) 1 pc') (hp : ncl [a0, a1] = true) (hn : 2 < X.nL) (kk : G X cs sl M pc' (a0 :: a1 :: some (iv z) :: L) st) : G X cs sl M pc (a0 :: a1 :: a2 :: L) (iv z :: st) := by
  obtain ⟨hd, rfl⟩ := hd
  intro H locs ls hH hl hL
  exact lv_istore_n hC.1 hC.2.1 hd rfl hL hn rfl (fun ls' h' => kk H locs ls' hH hl (lo_sub h' (st_sub1 (pre := [a0, a1]) (a := a2) hp)))
theorem g_ist2w (hC : Cx X own cc rt nm hh) {a0 a1 a2 : Option Value} {z : Int} (hd : dn cc pc (.istore 2) 2 pc') (hp : ncl [a0, a1] = true) (hn : 2 < X.nL) (kk : G X cs sl M pc' (a0 :: a1 :: some (iv z) :: L) st) : G X cs sl M pc (a0 :: a1 :: a2 :: L) (iv z :: st) := by
  obtain ⟨hd, rfl⟩ := hd
  intro H locs ls hH hl hL
  exact lv_istore hC.1 hC.2.1 hd hL hn rfl (fun ls' h' => kk H locs ls' hH hl (lo_sub h' (st_sub1 (pre := [a0, a1]) (a := a2) hp)))
theorem g_ast2 (hC : Cx X own cc rt nm hh) {a0 a1 a2 : Option Value} {z : Nat} (hd : dn cc pc (.astore_n 2) 1 pc') (hp : ncl [a0, a1] = true) (hn : 2 < X.nL) (kk : G X cs sl M pc' (a0 :: a1 :: some (.ref z) :: L) st) : G X cs sl M pc (a0 :: a1 :: a2 :: L) (.ref z :: st) := by
  obtain ⟨hd, rfl⟩ := hd
  intro H locs ls hH hl hL
  exact lv_astore_n hC.1 hC.2.1 hd rfl hL hn rfl (fun ls' h' => kk H locs ls' hH hl (lo_sub h' (st_sub1 (pre := [a0, a1]) (a := a2) hp)))
theorem g_ast2w (hC : Cx X own cc rt nm hh) {a0 a1 a2 : Option Value} {z : Nat} (hd : dn cc pc (.astore 2) 2 pc') (hp : ncl [a0, a1] = true) (hn : 2 < X.nL) (kk : G X cs sl M pc' (a0 :: a1 :: some (.ref z) :: L) st) : G X cs sl M pc (a0 :: a1 :: a2 :: L) (.ref z :: st) := by
  obtain ⟨hd, rfl⟩ := hd
  intro H locs ls hH hl hL
  exact lv_astore hC.1 hC.2.1 hd hL hn rfl (fun ls' h' => kk H locs ls' hH hl (lo_sub h' (st_sub1 (pre := [a0, a1]) (a := a2) hp)))
theorem g_lst2 (hC : Cx X own cc rt nm hh) {a0 a1 a2 b : Option Value} {z : Int} (hd : dn cc pc (.lstore_n 2) 1 pc') (hp : ncl [a0, a1] = true) (hn : 3 < X.nL) (kk : G X cs sl M pc' (a0 :: a1 :: some (jv z) :: none :: L) st) : G X cs sl M pc (a0 :: a1 :: a2 :: b :: L) (jv z :: st) := by
  obtain ⟨hd, rfl⟩ := hd
  intro H locs ls hH hl hL
  exact lv_lstore_n hC.1 hC.2.1 hd rfl hL hn rfl (fun ls' h' => kk H locs ls' hH hl (lo_sub h' (st_sub2 (pre := [a0, a1]) (a := a2) (b := b) hp)))
theorem g_lst2w (hC : Cx X own cc rt nm hh) {a0 a1 a2 b : Option Value} {z : Int} (hd : dn cc pc (.lstore 2) 2 pc') (hp : ncl [a0, a1] = true) (hn : 3 < X.nL) (kk : G X cs sl M pc' (a0 :: a1 :: some (jv z) :: none :: L) st) : G X cs sl M pc (a0 :: a1 :: a2 :: b :: L) (jv z :: st) := by
  obtain ⟨hd, rfl⟩ := hd
  intro H locs ls hH hl hL
  exact lv_lstore hC.1 hC.2.1 hd hL hn rfl (fun ls' h' => kk H locs ls' hH hl (lo_sub h' (st_sub2 (pre := [a0, a1]) (a := a2) (b := b) hp)))
theorem g_inc2 (hC : Cx X own cc rt nm hh) {a0 a1 : Option Value} {z n : Int} (hd : dn cc pc (.iinc 2 n) 3 pc') (hp : ncl [a0, a1] = true) (hn : 2 < X.nL) (kk : G X cs sl M pc' (a0 :: a1 :: some (iv (z + n)) :: L) st) : G X cs sl M pc (a0 :: a1 :: some (iv z) :: L) st := by
  obtain ⟨hd, rfl⟩ := hd
  intro H locs ls hH hl hL
  obtain ⟨j, hj⟩ := List.getElem?_of_mem (lp_mem (a0 :: a1 :: some (iv z) :: L) 0 2 (iv z) rfl)
  exact lv_iinc hC.1 hC.2.1 hd hL (k := j) (by rw [hj, Nat.zero_add]; rfl) (iadd_ok z n) hn rfl (fun ls' h' => kk H locs ls' hH hl (lo_sub h' (st_sub1 (pre := [a0, a1]) (a := some (iv z)) hp)))
theorem g_fg3 {a0 a1 a2 a3 : Option Value} (kk : G X cs sl M pc (a0 :: a1 :: a2 :: none :: L) st) : G X cs sl M pc (a0 :: a1 :: a2 :: a3 :: L) st :=
  fun H locs ls hH hl hL => kk H locs ls hH hl (lo_wk hL (fun k v hk => by
    match k, hk with
    | 0, hk => exact hk
    | 1, hk => exact hk
    | 2, hk => exact hk
    | 3, hk => exact absurd hk (by simp)
    | k + 4, hk => exact hk))
theorem g_ist3 (hC : Cx X own cc rt nm hh) {a0 a1 a2 a3 : Option Value} {z : Int} (hd : dn cc pc (.istore_n 3) 1 pc') (hp : ncl [a0, a1, a2] = true) (hn : 3 < X.nL) (kk : G X cs sl M pc' (a0 :: a1 :: a2 :: some (iv z) :: L) st) : G X cs sl M pc (a0 :: a1 :: a2 :: a3 :: L) (iv z :: st) := by
  obtain ⟨hd, rfl⟩ := hd
  intro H locs ls hH hl hL
  exact lv_istore_n hC.1 hC.2.1 hd rfl hL hn rfl (fun ls' h' => kk H locs ls' hH hl (lo_sub h' (st_sub1 (pre := [a0, a1, a2]) (a := a3) hp)))
theorem g_ist3w (hC : Cx X own cc rt nm hh) {a0 a1 a2 a3 : Option Value} {z : Int} (hd : dn cc pc (.istore 3) 2 pc') (hp : ncl [a0, a1, a2] = true) (hn : 3 < X.nL) (kk : G X cs sl M pc' (a0 :: a1 :: a2 :: some (iv z) :: L) st) : G X cs sl M pc (a0 :: a1 :: a2 :: a3 :: L) (iv z :: st) := by
  obtain ⟨hd, rfl⟩ := hd
  intro H locs ls hH hl hL
  exact lv_istore hC.1 hC.2.1 hd hL hn rfl (fun ls' h' => kk H locs ls' hH hl (lo_sub h' (st_sub1 (pre := [a0, a1, a2]) (a := a3) hp)))
theorem g_ast3 (hC : Cx X own cc rt nm hh) {a0 a1 a2 a3 : Option Value} {z : Nat} (hd : dn cc pc (.astore_n 3) 1 pc') (hp : ncl [a0, a1, a2] = true) (hn : 3 < X.nL) (kk : G X cs sl M pc' (a0 :: a1 :: a2 :: some (.ref z) :: L) st) : G X cs sl M pc (a0 :: a1 :: a2 :: a3 :: L) (.ref z :: st) := by
  obtain ⟨hd, rfl⟩ := hd
  intro H locs ls hH hl hL
  exact lv_astore_n hC.1 hC.2.1 hd rfl hL hn rfl (fun ls' h' => kk H locs ls' hH hl (lo_sub h' (st_sub1 (pre := [a0, a1, a2]) (a := a3) hp)))
theorem g_ast3w (hC : Cx X own cc rt nm hh) {a0 a1 a2 a3 : Option Value} {z : Nat} (hd : dn cc pc (.astore 3) 2 pc') (hp : ncl [a0, a1, a2] = true) (hn : 3 < X.nL) (kk : G X cs sl M pc' (a0 :: a1 :: a2 :: some (.ref z) :: L) st) : G X cs sl M pc (a0 :: a1 :: a2 :: a3 :: L) (.ref z :: st) := by
  obtain ⟨hd, rfl⟩ := hd
  intro H locs ls hH hl hL
  exact lv_astore hC.1 hC.2.1 hd hL hn rfl (fun ls' h' => kk H locs ls' hH hl (lo_sub h' (st_sub1 (pre := [a0, a1, a2]) (a := a3) hp)))
theorem g_lst3 (hC : Cx X own cc rt nm hh) {a0 a1 a2 a3 b : Option Value} {z : Int} (hd : dn cc pc (.lstore_n 3) 1 pc') (hp : ncl [a0, a1, a2] = true) (hn : 4 < X.nL) (kk : G X cs sl M pc' (a0 :: a1 :: a2 :: some (jv z) :: none :: L) st) : G X cs sl M pc (a0 :: a1 :: a2 :: a3 :: b :: L) (jv z :: st) := by
  obtain ⟨hd, rfl⟩ := hd
  intro H locs ls hH hl hL
  exact lv_lstore_n hC.1 hC.2.1 hd rfl hL hn rfl (fun ls' h' => kk H locs ls' hH hl (lo_sub h' (st_sub2 (pre := [a0, a1, a2]) (a := a3) (b := b) hp)))
theorem g_lst3w (hC : Cx X own cc rt nm hh) {a0 a1 a2 a3 b : Option Value} {z : Int} (hd : dn cc pc (.lstore 3) 2 pc') (hp : ncl [a0, a1, a2] = true) (hn : 4 < X.nL) (kk : G X cs sl M pc' (a0 :: a1 :: a2 :: some (jv z) :: none :: L) st) : G X cs sl M pc (a0 :: a1 :: a2 :: a3 :: b :: L) (jv z :: st) := by
  obtain ⟨hd, rfl⟩ := hd
  intro H locs ls hH hl hL
  exact lv_lstore hC.1 hC.2.1 hd hL hn rfl (fun ls' h' => kk H locs ls' hH hl (lo_sub h' (st_sub2 (pre := [a0, a1, a2]) (a := a3) (b := b) hp)))
theorem g_inc3 (hC : Cx X own cc rt nm hh) {a0 a1 a2 : Option Value} {z n : Int} (hd : dn cc pc (.iinc 3 n) 3 pc') (hp : ncl [a0, a1, a2] = true) (hn : 3 < X.nL) (kk : G X cs sl M pc' (a0 :: a1 :: a2 :: some (iv (z + n)) :: L) st) : G X cs sl M pc (a0 :: a1 :: a2 :: some (iv z) :: L) st := by
  obtain ⟨hd, rfl⟩ := hd
  intro H locs ls hH hl hL
  obtain ⟨j, hj⟩ := List.getElem?_of_mem (lp_mem (a0 :: a1 :: a2 :: some (iv z) :: L) 0 3 (iv z) rfl)
  exact lv_iinc hC.1 hC.2.1 hd hL (k := j) (by rw [hj, Nat.zero_add]; rfl) (iadd_ok z n) hn rfl (fun ls' h' => kk H locs ls' hH hl (lo_sub h' (st_sub1 (pre := [a0, a1, a2]) (a := some (iv z)) hp)))
theorem g_fg4 {a0 a1 a2 a3 a4 : Option Value} (kk : G X cs sl M pc (a0 :: a1 :: a2 :: a3 :: none :: L) st) : G X cs sl M pc (a0 :: a1 :: a2 :: a3 :: a4 :: L) st :=
  fun H locs ls hH hl hL => kk H locs ls hH hl (lo_wk hL (fun k v hk => by
    match k, hk with
    | 0, hk => exact hk
    | 1, hk => exact hk
    | 2, hk => exact hk
    | 3, hk => exact hk
    | 4, hk => exact absurd hk (by simp)
    | k + 5, hk => exact hk))
theorem g_ist4 (hC : Cx X own cc rt nm hh) {a0 a1 a2 a3 a4 : Option Value} {z : Int} (hd : dn cc pc (.istore 4) 2 pc') (hp : ncl [a0, a1, a2, a3] = true) (hn : 4 < X.nL) (kk : G X cs sl M pc' (a0 :: a1 :: a2 :: a3 :: some (iv z) :: L) st) : G X cs sl M pc (a0 :: a1 :: a2 :: a3 :: a4 :: L) (iv z :: st) := by
  obtain ⟨hd, rfl⟩ := hd
  intro H locs ls hH hl hL
  exact lv_istore hC.1 hC.2.1 hd hL hn rfl (fun ls' h' => kk H locs ls' hH hl (lo_sub h' (st_sub1 (pre := [a0, a1, a2, a3]) (a := a4) hp)))
theorem g_ast4 (hC : Cx X own cc rt nm hh) {a0 a1 a2 a3 a4 : Option Value} {z : Nat} (hd : dn cc pc (.astore 4) 2 pc') (hp : ncl [a0, a1, a2, a3] = true) (hn : 4 < X.nL) (kk : G X cs sl M pc' (a0 :: a1 :: a2 :: a3 :: some (.ref z) :: L) st) : G X cs sl M pc (a0 :: a1 :: a2 :: a3 :: a4 :: L) (.ref z :: st) := by
  obtain ⟨hd, rfl⟩ := hd
  intro H locs ls hH hl hL
  exact lv_astore hC.1 hC.2.1 hd hL hn rfl (fun ls' h' => kk H locs ls' hH hl (lo_sub h' (st_sub1 (pre := [a0, a1, a2, a3]) (a := a4) hp)))
theorem g_lst4 (hC : Cx X own cc rt nm hh) {a0 a1 a2 a3 a4 b : Option Value} {z : Int} (hd : dn cc pc (.lstore 4) 2 pc') (hp : ncl [a0, a1, a2, a3] = true) (hn : 5 < X.nL) (kk : G X cs sl M pc' (a0 :: a1 :: a2 :: a3 :: some (jv z) :: none :: L) st) : G X cs sl M pc (a0 :: a1 :: a2 :: a3 :: a4 :: b :: L) (jv z :: st) := by
  obtain ⟨hd, rfl⟩ := hd
  intro H locs ls hH hl hL
  exact lv_lstore hC.1 hC.2.1 hd hL hn rfl (fun ls' h' => kk H locs ls' hH hl (lo_sub h' (st_sub2 (pre := [a0, a1, a2, a3]) (a := a4) (b := b) hp)))
theorem g_inc4 (hC : Cx X own cc rt nm hh) {a0 a1 a2 a3 : Option Value} {z n : Int} (hd : dn cc pc (.iinc 4 n) 3 pc') (hp : ncl [a0, a1, a2, a3] = true) (hn : 4 < X.nL) (kk : G X cs sl M pc' (a0 :: a1 :: a2 :: a3 :: some (iv (z + n)) :: L) st) : G X cs sl M pc (a0 :: a1 :: a2 :: a3 :: some (iv z) :: L) st := by
  obtain ⟨hd, rfl⟩ := hd
  intro H locs ls hH hl hL
  obtain ⟨j, hj⟩ := List.getElem?_of_mem (lp_mem (a0 :: a1 :: a2 :: a3 :: some (iv z) :: L) 0 4 (iv z) rfl)
  exact lv_iinc hC.1 hC.2.1 hd hL (k := j) (by rw [hj, Nat.zero_add]; rfl) (iadd_ok z n) hn rfl (fun ls' h' => kk H locs ls' hH hl (lo_sub h' (st_sub1 (pre := [a0, a1, a2, a3]) (a := some (iv z)) hp)))
theorem g_fg5 {a0 a1 a2 a3 a4 a5 : Option Value} (kk : G X cs sl M pc (a0 :: a1 :: a2 :: a3 :: a4 :: none :: L) st) : G X cs sl M pc (a0 :: a1 :: a2 :: a3 :: a4 :: a5 :: L) st :=
  fun H locs ls hH hl hL => kk H locs ls hH hl (lo_wk hL (fun k v hk => by
    match k, hk with
    | 0, hk => exact hk
    | 1, hk => exact hk
    | 2, hk => exact hk
    | 3, hk => exact hk
    | 4, hk => exact hk
    | 5, hk => exact absurd hk (by simp)
    | k + 6, hk => exact hk))
theorem g_ist5 (hC : Cx X own cc rt nm hh) {a0 a1 a2 a3 a4 a5 : Option Value} {z : Int} (hd : dn cc pc (.istore 5) 2 pc') (hp : ncl [a0, a1, a2, a3, a4] = true) (hn : 5 < X.nL) (kk : G X cs sl M pc' (a0 :: a1 :: a2 :: a3 :: a4 :: some (iv z) :: L) st) : G X cs sl M pc (a0 :: a1 :: a2 :: a3 :: a4 :: a5 :: L) (iv z :: st) := by
  obtain ⟨hd, rfl⟩ := hd
  intro H locs ls hH hl hL
  exact lv_istore hC.1 hC.2.1 hd hL hn rfl (fun ls' h' => kk H locs ls' hH hl (lo_sub h' (st_sub1 (pre := [a0, a1, a2, a3, a4]) (a := a5) hp)))
theorem g_ast5 (hC : Cx X own cc rt nm hh) {a0 a1 a2 a3 a4 a5 : Option Value} {z : Nat} (hd : dn cc pc (.astore 5) 2 pc') (hp : ncl [a0, a1, a2, a3, a4] = true) (hn : 5 < X.nL) (kk : G X cs sl M pc' (a0 :: a1 :: a2 :: a3 :: a4 :: some (.ref z) :: L) st) : G X cs sl M pc (a0 :: a1 :: a2 :: a3 :: a4 :: a5 :: L) (.ref z :: st) := by
  obtain ⟨hd, rfl⟩ := hd
  intro H locs ls hH hl hL
  exact lv_astore hC.1 hC.2.1 hd hL hn rfl (fun ls' h' => kk H locs ls' hH hl (lo_sub h' (st_sub1 (pre := [a0, a1, a2, a3, a4]) (a := a5) hp)))
theorem g_lst5 (hC : Cx X own cc rt nm hh) {a0 a1 a2 a3 a4 a5 b : Option Value} {z : Int} (hd : dn cc pc (.lstore 5) 2 pc') (hp : ncl [a0, a1, a2, a3, a4] = true) (hn : 6 < X.nL) (kk : G X cs sl M pc' (a0 :: a1 :: a2 :: a3 :: a4 :: some (jv z) :: none :: L) st) : G X cs sl M pc (a0 :: a1 :: a2 :: a3 :: a4 :: a5 :: b :: L) (jv z :: st) := by
  obtain ⟨hd, rfl⟩ := hd
  intro H locs ls hH hl hL
  exact lv_lstore hC.1 hC.2.1 hd hL hn rfl (fun ls' h' => kk H locs ls' hH hl (lo_sub h' (st_sub2 (pre := [a0, a1, a2, a3, a4]) (a := a5) (b := b) hp)))
theorem g_inc5 (hC : Cx X own cc rt nm hh) {a0 a1 a2 a3 a4 : Option Value} {z n : Int} (hd : dn cc pc (.iinc 5 n) 3 pc') (hp : ncl [a0, a1, a2, a3, a4] = true) (hn : 5 < X.nL) (kk : G X cs sl M pc' (a0 :: a1 :: a2 :: a3 :: a4 :: some (iv (z + n)) :: L) st) : G X cs sl M pc (a0 :: a1 :: a2 :: a3 :: a4 :: some (iv z) :: L) st := by
  obtain ⟨hd, rfl⟩ := hd
  intro H locs ls hH hl hL
  obtain ⟨j, hj⟩ := List.getElem?_of_mem (lp_mem (a0 :: a1 :: a2 :: a3 :: a4 :: some (iv z) :: L) 0 5 (iv z) rfl)
  exact lv_iinc hC.1 hC.2.1 hd hL (k := j) (by rw [hj, Nat.zero_add]; rfl) (iadd_ok z n) hn rfl (fun ls' h' => kk H locs ls' hH hl (lo_sub h' (st_sub1 (pre := [a0, a1, a2, a3, a4]) (a := some (iv z)) hp)))
theorem g_fg6 {a0 a1 a2 a3 a4 a5 a6 : Option Value} (kk : G X cs sl M pc (a0 :: a1 :: a2 :: a3 :: a4 :: a5 :: none :: L) st) : G X cs sl M pc (a0 :: a1 :: a2 :: a3 :: a4 :: a5 :: a6 :: L) st :=
  fun H locs ls hH hl hL => kk H locs ls hH hl (lo_wk hL (fun k v hk => by
    match k, hk with
    | 0, hk => exact hk
    | 1, hk => exact hk
    | 2, hk => exact hk
    | 3, hk => exact hk
    | 4, hk => exact hk
    | 5, hk => exact hk
    | 6, hk => exact absurd hk (by simp)
    | k + 7, hk => exact hk))
theorem g_ist6 (hC : Cx X own cc rt nm hh) {a0 a1 a2 a3 a4 a5 a6 : Option Value} {z : Int} (hd : dn cc pc (.istore 6) 2 pc') (hp : ncl [a0, a1, a2, a3, a4, a5] = true) (hn : 6 < X.nL) (kk : G X cs sl M pc' (a0 :: a1 :: a2 :: a3 :: a4 :: a5 :: some (iv z) :: L) st) : G X cs sl M pc (a0 :: a1 :: a2 :: a3 :: a4 :: a5 :: a6 :: L) (iv z :: st) := by
  obtain ⟨hd, rfl⟩ := hd
  intro H locs ls hH hl hL
  exact lv_istore hC.1 hC.2.1 hd hL hn rfl (fun ls' h' => kk H locs ls' hH hl (lo_sub h' (st_sub1 (pre := [a0, a1, a2, a3, a4, a5]) (a := a6) hp)))
theorem g_ast6 (hC : Cx X own cc rt nm hh) {a0 a1 a2 a3 a4 a5 a6 : Option Value} {z : Nat} (hd : dn cc pc (.astore 6) 2 pc') (hp : ncl [a0, a1, a2, a3, a4, a5] = true) (hn : 6 < X.nL) (kk : G X cs sl M pc' (a0 :: a1 :: a2 :: a3 :: a4 :: a5 :: some (.ref z) :: L) st) : G X cs sl M pc (a0 :: a1 :: a2 :: a3 :: a4 :: a5 :: a6 :: L) (.ref z :: st) := by
  obtain ⟨hd, rfl⟩ := hd
  intro H locs ls hH hl hL
  exact lv_astore hC.1 hC.2.1 hd hL hn rfl (fun ls' h' => kk H locs ls' hH hl (lo_sub h' (st_sub1 (pre := [a0, a1, a2, a3, a4, a5]) (a := a6) hp)))
theorem g_lst6 (hC : Cx X own cc rt nm hh) {a0 a1 a2 a3 a4 a5 a6 b : Option Value} {z : Int} (hd : dn cc pc (.lstore 6) 2 pc') (hp : ncl [a0, a1, a2, a3, a4, a5] = true) (hn : 7 < X.nL) (kk : G X cs sl M pc' (a0 :: a1 :: a2 :: a3 :: a4 :: a5 :: some (jv z) :: none :: L) st) : G X cs sl M pc (a0 :: a1 :: a2 :: a3 :: a4 :: a5 :: a6 :: b :: L) (jv z :: st) := by
  obtain ⟨hd, rfl⟩ := hd
  intro H locs ls hH hl hL
  exact lv_lstore hC.1 hC.2.1 hd hL hn rfl (fun ls' h' => kk H locs ls' hH hl (lo_sub h' (st_sub2 (pre := [a0, a1, a2, a3, a4, a5]) (a := a6) (b := b) hp)))
theorem g_inc6 (hC : Cx X own cc rt nm hh) {a0 a1 a2 a3 a4 a5 : Option Value} {z n : Int} (hd : dn cc pc (.iinc 6 n) 3 pc') (hp : ncl [a0, a1, a2, a3, a4, a5] = true) (hn : 6 < X.nL) (kk : G X cs sl M pc' (a0 :: a1 :: a2 :: a3 :: a4 :: a5 :: some (iv (z + n)) :: L) st) : G X cs sl M pc (a0 :: a1 :: a2 :: a3 :: a4 :: a5 :: some (iv z) :: L) st := by
  obtain ⟨hd, rfl⟩ := hd
  intro H locs ls hH hl hL
  obtain ⟨j, hj⟩ := List.getElem?_of_mem (lp_mem (a0 :: a1 :: a2 :: a3 :: a4 :: a5 :: some (iv z) :: L) 0 6 (iv z) rfl)
  exact lv_iinc hC.1 hC.2.1 hd hL (k := j) (by rw [hj, Nat.zero_add]; rfl) (iadd_ok z n) hn rfl (fun ls' h' => kk H locs ls' hH hl (lo_sub h' (st_sub1 (pre := [a0, a1, a2, a3, a4, a5]) (a := some (iv z)) hp)))
theorem g_fg7 {a0 a1 a2 a3 a4 a5 a6 a7 : Option Value} (kk : G X cs sl M pc (a0 :: a1 :: a2 :: a3 :: a4 :: a5 :: a6 :: none :: L) st) : G X cs sl M pc (a0 :: a1 :: a2 :: a3 :: a4 :: a5 :: a6 :: a7 :: L) st :=
  fun H locs ls hH hl hL => kk H locs ls hH hl (lo_wk hL (fun k v hk => by
    match k, hk with
    | 0, hk => exact hk
    | 1, hk => exact hk
    | 2, hk => exact hk
    | 3, hk => exact hk
    | 4, hk => exact hk
    | 5, hk => exact hk
    | 6, hk => exact hk
    | 7, hk => exact absurd hk (by simp)
    | k + 8, hk => exact hk))
theorem g_ist7 (hC : Cx X own cc rt nm hh) {a0 a1 a2 a3 a4 a5 a6 a7 : Option Value} {z : Int} (hd : dn cc pc (.istore 7) 2 pc') (hp : ncl [a0, a1, a2, a3, a4, a5, a6] = true) (hn : 7 < X.nL) (kk : G X cs sl M pc' (a0 :: a1 :: a2 :: a3 :: a4 :: a5 :: a6 :: some (iv z) :: L) st) : G X cs sl M pc (a0 :: a1 :: a2 :: a3 :: a4 :: a5 :: a6 :: a7 :: L) (iv z :: st) := by
  obtain ⟨hd, rfl⟩ := hd
  intro H locs ls hH hl hL
  exact lv_istore hC.1 hC.2.1 hd hL hn rfl (fun ls' h' => kk H locs ls' hH hl (lo_sub h' (st_sub1 (pre := [a0, a1, a2, a3, a4, a5, a6]) (a := a7) hp)))
theorem g_ast7 (hC : Cx X own cc rt nm hh) {a0 a1 a2 a3 a4 a5 a6 a7 : Option Value} {z : Nat} (hd : dn cc pc (.astore 7) 2 pc') (hp : ncl [a0, a1, a2, a3, a4, a5, a6] = true) (hn : 7 < X.nL) (kk : G X cs sl M pc' (a0 :: a1 :: a2 :: a3 :: a4 :: a5 :: a6 :: some (.ref z) :: L) st) : G X cs sl M pc (a0 :: a1 :: a2 :: a3 :: a4 :: a5 :: a6 :: a7 :: L) (.ref z :: st) := by
  obtain ⟨hd, rfl⟩ := hd
  intro H locs ls hH hl hL
  exact lv_astore hC.1 hC.2.1 hd hL hn rfl (fun ls' h' => kk H locs ls' hH hl (lo_sub h' (st_sub1 (pre := [a0, a1, a2, a3, a4, a5, a6]) (a := a7) hp)))
theorem g_lst7 (hC : Cx X own cc rt nm hh) {a0 a1 a2 a3 a4 a5 a6 a7 b : Option Value} {z : Int} (hd : dn cc pc (.lstore 7) 2 pc') (hp : ncl [a0, a1, a2, a3, a4, a5, a6] = true) (hn : 8 < X.nL) (kk : G X cs sl M pc' (a0 :: a1 :: a2 :: a3 :: a4 :: a5 :: a6 :: some (jv z) :: none :: L) st) : G X cs sl M pc (a0 :: a1 :: a2 :: a3 :: a4 :: a5 :: a6 :: a7 :: b :: L) (jv z :: st) := by
  obtain ⟨hd, rfl⟩ := hd
  intro H locs ls hH hl hL
  exact lv_lstore hC.1 hC.2.1 hd hL hn rfl (fun ls' h' => kk H locs ls' hH hl (lo_sub h' (st_sub2 (pre := [a0, a1, a2, a3, a4, a5, a6]) (a := a7) (b := b) hp)))
theorem g_inc7 (hC : Cx X own cc rt nm hh) {a0 a1 a2 a3 a4 a5 a6 : Option Value} {z n : Int} (hd : dn cc pc (.iinc 7 n) 3 pc') (hp : ncl [a0, a1, a2, a3, a4, a5, a6] = true) (hn : 7 < X.nL) (kk : G X cs sl M pc' (a0 :: a1 :: a2 :: a3 :: a4 :: a5 :: a6 :: some (iv (z + n)) :: L) st) : G X cs sl M pc (a0 :: a1 :: a2 :: a3 :: a4 :: a5 :: a6 :: some (iv z) :: L) st := by
  obtain ⟨hd, rfl⟩ := hd
  intro H locs ls hH hl hL
  obtain ⟨j, hj⟩ := List.getElem?_of_mem (lp_mem (a0 :: a1 :: a2 :: a3 :: a4 :: a5 :: a6 :: some (iv z) :: L) 0 7 (iv z) rfl)
  exact lv_iinc hC.1 hC.2.1 hd hL (k := j) (by rw [hj, Nat.zero_add]; rfl) (iadd_ok z n) hn rfl (fun ls' h' => kk H locs ls' hH hl (lo_sub h' (st_sub1 (pre := [a0, a1, a2, a3, a4, a5, a6]) (a := some (iv z)) hp)))
theorem g_fg8 {a0 a1 a2 a3 a4 a5 a6 a7 a8 : Option Value} (kk : G X cs sl M pc (a0 :: a1 :: a2 :: a3 :: a4 :: a5 :: a6 :: a7 :: none :: L) st) : G X cs sl M pc (a0 :: a1 :: a2 :: a3 :: a4 :: a5 :: a6 :: a7 :: a8 :: L) st :=
  fun H locs ls hH hl hL => kk H locs ls hH hl (lo_wk hL (fun k v hk => by
    match k, hk with
    | 0, hk => exact hk
    | 1, hk => exact hk
    | 2, hk => exact hk
    | 3, hk => exact hk
    | 4, hk => exact hk
    | 5, hk => exact hk
    | 6, hk => exact hk
    | 7, hk => exact hk
    | 8, hk => exact absurd hk (by simp)
    | k + 9, hk => exact hk))
theorem g_ist8 (hC : Cx X own cc rt nm hh) {a0 a1 a2 a3 a4 a5 a6 a7 a8 : Option Value} {z : Int} (hd : dn cc pc (.istore 8) 2 pc') (hp : ncl [a0, a1, a2, a3, a4, a5, a6, a7] = true) (hn : 8 < X.nL) (kk : G X cs sl M pc' (a0 :: a1 :: a2 :: a3 :: a4 :: a5 :: a6 :: a7 :: some (iv z) :: L) st) : G X cs sl M pc (a0 :: a1 :: a2 :: a3 :: a4 :: a5 :: a6 :: a7 :: a8 :: L) (iv z :: st) := by
  obtain ⟨hd, rfl⟩ := hd
  intro H locs ls hH hl hL
  exact lv_istore hC.1 hC.2.1 hd hL hn rfl (fun ls' h' => kk H locs ls' hH hl (lo_sub h' (st_sub1 (pre := [a0, a1, a2, a3, a4, a5, a6, a7]) (a := a8) hp)))
theorem g_ast8 (hC : Cx X own cc rt nm hh) {a0 a1 a2 a3 a4 a5 a6 a7 a8 : Option Value} {z : Nat} (hd : dn cc pc (.astore 8) 2 pc') (hp : ncl [a0, a1, a2, a3, a4, a5, a6, a7] = true) (hn : 8 < X.nL) (kk : G X cs sl M pc' (a0 :: a1 :: a2 :: a3 :: a4 :: a5 :: a6 :: a7 :: some (.ref z) :: L) st) : G X cs sl M pc (a0 :: a1 :: a2 :: a3 :: a4 :: a5 :: a6 :: a7 :: a8 :: L) (.ref z :: st) := by
  obtain ⟨hd, rfl⟩ := hd
  intro H locs ls hH hl hL
  exact lv_astore hC.1 hC.2.1 hd hL hn rfl (fun ls' h' => kk H locs ls' hH hl (lo_sub h' (st_sub1 (pre := [a0, a1, a2, a3, a4, a5, a6, a7]) (a := a8) hp)))
theorem g_lst8 (hC : Cx X own cc rt nm hh) {a0 a1 a2 a3 a4 a5 a6 a7 a8 b : Option Value} {z : Int} (hd : dn cc pc (.lstore 8) 2 pc') (hp : ncl [a0, a1, a2, a3, a4, a5, a6, a7] = true) (hn : 9 < X.nL) (kk : G X cs sl M pc' (a0 :: a1 :: a2 :: a3 :: a4 :: a5 :: a6 :: a7 :: some (jv z) :: none :: L) st) : G X cs sl M pc (a0 :: a1 :: a2 :: a3 :: a4 :: a5 :: a6 :: a7 :: a8 :: b :: L) (jv z :: st) := by
  obtain ⟨hd, rfl⟩ := hd
  intro H locs ls hH hl hL
  exact lv_lstore hC.1 hC.2.1 hd hL hn rfl (fun ls' h' => kk H locs ls' hH hl (lo_sub h' (st_sub2 (pre := [a0, a1, a2, a3, a4, a5, a6, a7]) (a := a8) (b := b) hp)))
theorem g_inc8 (hC : Cx X own cc rt nm hh) {a0 a1 a2 a3 a4 a5 a6 a7 : Option Value} {z n : Int} (hd : dn cc pc (.iinc 8 n) 3 pc') (hp : ncl [a0, a1, a2, a3, a4, a5, a6, a7] = true) (hn : 8 < X.nL) (kk : G X cs sl M pc' (a0 :: a1 :: a2 :: a3 :: a4 :: a5 :: a6 :: a7 :: some (iv (z + n)) :: L) st) : G X cs sl M pc (a0 :: a1 :: a2 :: a3 :: a4 :: a5 :: a6 :: a7 :: some (iv z) :: L) st := by
  obtain ⟨hd, rfl⟩ := hd
  intro H locs ls hH hl hL
  obtain ⟨j, hj⟩ := List.getElem?_of_mem (lp_mem (a0 :: a1 :: a2 :: a3 :: a4 :: a5 :: a6 :: a7 :: some (iv z) :: L) 0 8 (iv z) rfl)
  exact lv_iinc hC.1 hC.2.1 hd hL (k := j) (by rw [hj, Nat.zero_add]; rfl) (iadd_ok z n) hn rfl (fun ls' h' => kk H locs ls' hH hl (lo_sub h' (st_sub1 (pre := [a0, a1, a2, a3, a4, a5, a6, a7]) (a := some (iv z)) hp)))
theorem g_fg9 {a0 a1 a2 a3 a4 a5 a6 a7 a8 a9 : Option Value} (kk : G X cs sl M pc (a0 :: a1 :: a2 :: a3 :: a4 :: a5 :: a6 :: a7 :: a8 :: none :: L) st) : G X cs sl M pc (a0 :: a1 :: a2 :: a3 :: a4 :: a5 :: a6 :: a7 :: a8 :: a9 :: L) st :=
  fun H locs ls hH hl hL => kk H locs ls hH hl (lo_wk hL (fun k v hk => by
    match k, hk with
    | 0, hk => exact hk
    | 1, hk => exact hk
    | 2, hk => exact hk
    | 3, hk => exact hk
    | 4, hk => exact hk
    | 5, hk => exact hk
    | 6, hk => exact hk
    | 7, hk => exact hk
    | 8, hk => exact hk
    | 9, hk => exact absurd hk (by simp)
    | k + 10, hk => exact hk))
theorem g_ist9 (hC : Cx X own cc rt nm hh) {a0 a1 a2 a3 a4 a5 a6 a7 a8 a9 : Option Value} {z : Int} (hd : dn cc pc (.istore 9) 2 pc') (hp : ncl [a0, a1, a2, a3, a4, a5, a6, a7, a8] = true) (hn : 9 < X.nL) (kk : G X cs sl M pc' (a0 :: a1 :: a2 :: a3 :: a4 :: a5 :: a6 :: a7 :: a8 :: some (iv z) :: L) st) : G X cs sl M pc (a0 :: a1 :: a2 :: a3 :: a4 :: a5 :: a6 :: a7 :: a8 :: a9 :: L) (iv z :: st) := by
  obtain ⟨hd, rfl⟩ := hd
  intro H locs ls hH hl hL
  exact lv_istore hC.1 hC.2.1 hd hL hn rfl (fun ls' h' => kk H locs ls' hH hl (lo_sub h' (st_sub1 (pre := [a0, a1, a2, a3, a4, a5, a6, a7, a8]) (a := a9) hp)))
theorem g_ast9 (hC : Cx X own cc rt nm hh) {a0 a1 a2 a3 a4 a5 a6 a7 a8 a9 : Option Value} {z : Nat} (hd : dn cc pc (.astore 9) 2 pc') (hp : ncl [a0, a1, a2, a3, a4, a5, a6, a7, a8] = true) (hn : 9 < X.nL) (kk : G X cs sl M pc' (a0 :: a1 :: a2 :: a3 :: a4 :: a5 :: a6 :: a7 :: a8 :: some (.ref z) :: L) st) : G X cs sl M pc (a0 :: a1 :: a2 :: a3 :: a4 :: a5 :: a6 :: a7 :: a8 :: a9 :: L) (.ref z :: st) := by
  obtain ⟨hd, rfl⟩ := hd
  intro H locs ls hH hl hL
  exact lv_astore hC.1 hC.2.1 hd hL hn rfl (fun ls' h' => kk H locs ls' hH hl (lo_sub h' (st_sub1 (pre := [a0, a1, a2, a3, a4, a5, a6, a7, a8]) (a := a9) hp)))
theorem g_lst9 (hC : Cx X own cc rt nm hh) {a0 a1 a2 a3 a4 a5 a6 a7 a8 a9 b : Option Value} {z : Int} (hd : dn cc pc (.lstore 9) 2 pc') (hp : ncl [a0, a1, a2, a3, a4, a5, a6, a7, a8] = true) (hn : 10 < X.nL) (kk : G X cs sl M pc' (a0 :: a1 :: a2 :: a3 :: a4 :: a5 :: a6 :: a7 :: a8 :: some (jv z) :: none :: L) st) : G X cs sl M pc (a0 :: a1 :: a2 :: a3 :: a4 :: a5 :: a6 :: a7 :: a8 :: a9 :: b :: L) (jv z :: st) := by
  obtain ⟨hd, rfl⟩ := hd
  intro H locs ls hH hl hL
  exact lv_lstore hC.1 hC.2.1 hd hL hn rfl (fun ls' h' => kk H locs ls' hH hl (lo_sub h' (st_sub2 (pre := [a0, a1, a2, a3, a4, a5, a6, a7, a8]) (a := a9) (b := b) hp)))
theorem g_inc9 (hC : Cx X own cc rt nm hh) {a0 a1 a2 a3 a4 a5 a6 a7 a8 : Option Value} {z n : Int} (hd : dn cc pc (.iinc 9 n) 3 pc') (hp : ncl [a0, a1, a2, a3, a4, a5, a6, a7, a8] = true) (hn : 9 < X.nL) (kk : G X cs sl M pc' (a0 :: a1 :: a2 :: a3 :: a4 :: a5 :: a6 :: a7 :: a8 :: some (iv (z + n)) :: L) st) : G X cs sl M pc (a0 :: a1 :: a2 :: a3 :: a4 :: a5 :: a6 :: a7 :: a8 :: some (iv z) :: L) st := by
  obtain ⟨hd, rfl⟩ := hd
  intro H locs ls hH hl hL
  obtain ⟨j, hj⟩ := List.getElem?_of_mem (lp_mem (a0 :: a1 :: a2 :: a3 :: a4 :: a5 :: a6 :: a7 :: a8 :: some (iv z) :: L) 0 9 (iv z) rfl)
  exact lv_iinc hC.1 hC.2.1 hd hL (k := j) (by rw [hj, Nat.zero_add]; rfl) (iadd_ok z n) hn rfl (fun ls' h' => kk H locs ls' hH hl (lo_sub h' (st_sub1 (pre := [a0, a1, a2, a3, a4, a5, a6, a7, a8]) (a := some (iv z)) hp)))
theorem g_fg10 {a0 a1 a2 a3 a4 a5 a6 a7 a8 a9 a10 : Option Value} (kk : G X cs sl M pc (a0 :: a1 :: a2 :: a3 :: a4 :: a5 :: a6 :: a7 :: a8 :: a9 :: none :: L) st) : G X cs sl M pc (a0 :: a1 :: a2 :: a3 :: a4 :: a5 :: a6 :: a7 :: a8 :: a9 :: a10 :: L) st :=
  fun H locs ls hH hl hL => kk H locs ls hH hl (lo_wk hL (fun k v hk => by
    match k, hk with
    | 0, hk => exact hk
    | 1, hk => exact hk
    | 2, hk => exact hk
    | 3, hk => exact hk
    | 4, hk => exact hk
    | 5, hk => exact hk
    | 6, hk => exact hk
    | 7, hk => exact hk
    | 8, hk => exact hk
    | 9, hk => exact hk
    | 10, hk => exact absurd hk (by simp)
    | k + 11, hk => exact hk))
theorem g_ist10 (hC : Cx X own cc rt nm hh) {a0 a1 a2 a3 a4 a5 a6 a7 a8 a9 a10 : Option Value} {z : Int} (hd : dn cc pc (.istore 10) 2 pc') (hp : ncl [a0, a1, a2, a3, a4, a5, a6, a7, a8, a9] = true) (hn : 10 < X.nL) (kk : G X cs sl M pc' (a0 :: a1 :: a2 :: a3 :: a4 :: a5 :: a6 :: a7 :: a8 :: a9 :: some (iv z) :: L) st) : G X cs sl M pc (a0 :: a1 :: a2 :: a3 :: a4 :: a5 :: a6 :: a7 :: a8 :: a9 :: a10 :: L) (iv z :: st) := by
  obtain ⟨hd, rfl⟩ := hd
  intro H locs ls hH hl hL
  exact lv_istore hC.1 hC.2.1 hd hL hn rfl (fun ls' h' => kk H locs ls' hH hl (lo_sub h' (st_sub1 (pre := [a0, a1, a2, a3, a4, a5, a6, a7, a8, a9]) (a := a10) hp)))
theorem g_ast10 (hC : Cx X own cc rt nm hh) {a0 a1 a2 a3 a4 a5 a6 a7 a8 a9 a10 : Option Value} {z : Nat} (hd : dn cc pc (.astore 10) 2 pc') (hp : ncl [a0, a1, a2, a3, a4, a5, a6, a7, a8, a9] = true) (hn : 10 < X.nL) (kk : G X cs sl M pc' (a0 :: a1 :: a2 :: a3 :: a4 :: a5 :: a6 :: a7 :: a8 :: a9 :: some (.ref z) :: L) st) : G X cs sl M pc (a0 :: a1 :: a2 :: a3 :: a4 :: a5 :: a6 :: a7 :: a8 :: a9 :: a10 :: L) (.ref z :: st) := by
  obtain ⟨hd, rfl⟩ := hd
  intro H locs ls hH hl hL
  exact lv_astore hC.1 hC.2.1 hd hL hn rfl (fun ls' h' => kk H locs ls' hH hl (lo_sub h' (st_sub1 (pre := [a0, a1, a2, a3, a4, a5, a6, a7, a8, a9]) (a := a10) hp)))
theorem g_lst10 (hC : Cx X own cc rt nm hh) {a0 a1 a2 a3 a4 a5 a6 a7 a8 a9 a10 b : Option Value} {z : Int} (hd : dn cc pc (.lstore 10) 2 pc') (hp : ncl [a0, a1, a2, a3, a4, a5, a6, a7, a8, a9] = true) (hn : 11 < X.nL) (kk : G X cs sl M pc' (a0 :: a1 :: a2 :: a3 :: a4 :: a5 :: a6 :: a7 :: a8 :: a9 :: some (jv z) :: none :: L) st) : G X cs sl M pc (a0 :: a1 :: a2 :: a3 :: a4 :: a5 :: a6 :: a7 :: a8 :: a9 :: a10 :: b :: L) (jv z :: st) := by
  obtain ⟨hd, rfl⟩ := hd
  intro H locs ls hH hl hL
  exact lv_lstore hC.1 hC.2.1 hd hL hn rfl (fun ls' h' => kk H locs ls' hH hl (lo_sub h' (st_sub2 (pre := [a0, a1, a2, a3, a4, a5, a6, a7, a8, a9]) (a := a10) (b := b) hp)))
theorem g_inc10 (hC : Cx X own cc rt nm hh) {a0 a1 a2 a3 a4 a5 a6 a7 a8 a9 : Option Value} {z n : Int} (hd : dn cc pc (.iinc 10 n) 3 pc') (hp : ncl [a0, a1, a2, a3, a4, a5, a6, a7, a8, a9] = true) (hn : 10 < X.nL) (kk : G X cs sl M pc' (a0 :: a1 :: a2 :: a3 :: a4 :: a5 :: a6 :: a7 :: a8 :: a9 :: some (iv (z + n)) :: L) st) : G X cs sl M pc (a0 :: a1 :: a2 :: a3 :: a4 :: a5 :: a6 :: a7 :: a8 :: a9 :: some (iv z) :: L) st := by
  obtain ⟨hd, rfl⟩ := hd
  intro H locs ls hH hl hL
  obtain ⟨j, hj⟩ := List.getElem?_of_mem (lp_mem (a0 :: a1 :: a2 :: a3 :: a4 :: a5 :: a6 :: a7 :: a8 :: a9 :: some (iv z) :: L) 0 10 (iv z) rfl)
  exact lv_iinc hC.1 hC.2.1 hd hL (k := j) (by rw [hj, Nat.zero_add]; rfl) (iadd_ok z n) hn rfl (fun ls' h' => kk H locs ls' hH hl (lo_sub h' (st_sub1 (pre := [a0, a1, a2, a3, a4, a5, a6, a7, a8, a9]) (a := some (iv z)) hp)))
theorem g_fg11 {a0 a1 a2 a3 a4 a5 a6 a7 a8 a9 a10 a11 : Option Value} (kk : G X cs sl M pc (a0 :: a1 :: a2 :: a3 :: a4 :: a5 :: a6 :: a7 :: a8 :: a9 :: a10 :: none :: L) st) : G X cs sl M pc (a0 :: a1 :: a2 :: a3 :: a4 :: a5 :: a6 :: a7 :: a8 :: a9 :: a10 :: a11 :: L) st :=
  fun H locs ls hH hl hL => kk H locs ls hH hl (lo_wk hL (fun k v hk => by
    match k, hk with
    | 0, hk => exact hk
    | 1, hk => exact hk
    | 2, hk => exact hk
    | 3, hk => exact hk
    | 4, hk => exact hk
    | 5, hk => exact hk
    | 6, hk => exact hk
    | 7, hk => exact hk
    | 8, hk => exact hk
    | 9, hk => exact hk
    | 10, hk => exact hk
    | 11, hk => exact absurd hk (by simp)
    | k + 12, hk => exact hk))
theorem g_ist11 (hC : Cx X own cc rt nm hh) {a0 a1 a2 a3 a4 a5 a6 a7 a8 a9 a10 a11 : Option Value} {z : Int} (hd : dn cc pc (.istore 11) 2 pc') (hp : ncl [a0, a1, a2, a3, a4, a5, a6, a7, a8, a9, a10] = true) (hn : 11 < X.nL) (kk : G X cs sl M pc' (a0 :: a1 :: a2 :: a3 :: a4 :: a5 :: a6 :: a7 :: a8 :: a9 :: a10 :: some (iv z) :: L) st) : G X cs sl M pc (a0 :: a1 :: a2 :: a3 :: a4 :: a5 :: a6 :: a7 :: a8 :: a9 :: a10 :: a11 :: L) (iv z :: st) := by
  obtain ⟨hd, rfl⟩ := hd
  intro H locs ls hH hl hL
  exact lv_istore hC.1 hC.2.1 hd hL hn rfl (fun ls' h' => kk H locs ls' hH hl (lo_sub h' (st_sub1 (pre := [a0, a1, a2, a3, a4, a5, a6, a7, a8, a9, a10]) (a := a11) hp)))
theorem g_ast11 (hC : Cx X own cc rt nm hh) {a0 a1 a2 a3 a4 a5 a6 a7 a8 a9 a10 a11 : Option Value} {z : Nat} (hd : dn cc pc (.astore 11) 2 pc') (hp : ncl [a0, a1, a2, a3, a4, a5, a6, a7, a8, a9, a10] = true) (hn : 11 < X.nL) (kk : G X cs sl M pc' (a0 :: a1 :: a2 :: a3 :: a4 :: a5 :: a6 :: a7 :: a8 :: a9 :: a10 :: some (.ref z) :: L) st) : G X cs sl M pc (a0 :: a1 :: a2 :: a3 :: a4 :: a5 :: a6 :: a7 :: a8 :: a9 :: a10 :: a11 :: L) (.ref z :: st) := by
  obtain ⟨hd, rfl⟩ := hd
  intro H locs ls hH hl hL
  exact lv_astore hC.1 hC.2.1 hd hL hn rfl (fun ls' h' => kk H locs ls' hH hl (lo_sub h' (st_sub1 (pre := [a0, a1, a2, a3, a4, a5, a6, a7, a8, a9, a10]) (a := a11) hp)))
theorem g_lst11 (hC : Cx X own cc rt nm hh) {a0 a1 a2 a3 a4 a5 a6 a7 a8 a9 a10 a11 b : Option Value} {z : Int} (hd : dn cc pc (.lstore 11) 2 pc') (hp : ncl [a0, a1, a2, a3, a4, a5, a6, a7, a8, a9, a10] = true) (hn : 12 < X.nL) (kk : G X cs sl M pc' (a0 :: a1 :: a2 :: a3 :: a4 :: a5 :: a6 :: a7 :: a8 :: a9 :: a10 :: some (jv z) :: none :: L) st) : G X cs sl M pc (a0 :: a1 :: a2 :: a3 :: a4 :: a5 :: a6 :: a7 :: a8 :: a9 :: a10 :: a11 :: b :: L) (jv z :: st) := by
  obtain ⟨hd, rfl⟩ := hd
  intro H locs ls hH hl hL
  exact lv_lstore hC.1 hC.2.1 hd hL hn rfl (fun ls' h' => kk H locs ls' hH hl (lo_sub h' (st_sub2 (pre := [a0, a1, a2, a3, a4, a5, a6, a7, a8, a9, a10]) (a := a11) (b := b) hp)))
theorem g_inc11 (hC : Cx X own cc rt nm hh) {a0 a1 a2 a3 a4 a5 a6 a7 a8 a9 a10 : Option Value} {z n : Int} (hd : dn cc pc (.iinc 11 n) 3 pc') (hp : ncl [a0, a1, a2, a3, a4, a5, a6, a7, a8, a9, a10] = true) (hn : 11 < X.nL) (kk : G X cs sl M pc' (a0 :: a1 :: a2 :: a3 :: a4 :: a5 :: a6 :: a7 :: a8 :: a9 :: a10 :: some (iv (z + n)) :: L) st) : G X cs sl M pc (a0 :: a1 :: a2 :: a3 :: a4 :: a5 :: a6 :: a7 :: a8 :: a9 :: a10 :: some (iv z) :: L) st := by
  obtain ⟨hd, rfl⟩ := hd
  intro H locs ls hH hl hL
  obtain ⟨j, hj⟩ := List.getElem?_of_mem (lp_mem (a0 :: a1 :: a2 :: a3 :: a4 :: a5 :: a6 :: a7 :: a8 :: a9 :: a10 :: some (iv z) :: L) 0 11 (iv z) rfl)
  exact lv_iinc hC.1 hC.2.1 hd hL (k := j) (by rw [hj, Nat.zero_add]; rfl) (iadd_ok z n) hn rfl (fun ls' h' => kk H locs ls' hH hl (lo_sub h' (st_sub1 (pre := [a0, a1, a2, a3, a4, a5, a6, a7, a8, a9, a10]) (a := some (iv z)) hp)))
theorem g_fg12 {a0 a1 a2 a3 a4 a5 a6 a7 a8 a9 a10 a11 a12 : Option Value} (kk : G X cs sl M pc (a0 :: a1 :: a2 :: a3 :: a4 :: a5 :: a6 :: a7 :: a8 :: a9 :: a10 :: a11 :: none :: L) st) : G X cs sl M pc (a0 :: a1 :: a2 :: a3 :: a4 :: a5 :: a6 :: a7 :: a8 :: a9 :: a10 :: a11 :: a12 :: L) st :=
  fun H locs ls hH hl hL => kk H locs ls hH hl (lo_wk hL (fun k v hk => by
    match k, hk with
    | 0, hk => exact hk
    | 1, hk => exact hk
    | 2, hk => exact hk
    | 3, hk => exact hk
    | 4, hk => exact hk
    | 5, hk => exact hk
    | 6, hk => exact hk
    | 7, hk => exact hk
    | 8, hk => exact hk
    | 9, hk => exact hk
    | 10, hk => exact hk
    | 11, hk => exact hk
    | 12, hk => exact absurd hk (by simp)
    | k + 13, hk => exact hk))
theorem g_ist12 (hC : Cx X own cc rt nm hh) {a0 a1 a2 a3 a4 a5 a6 a7 a8 a9 a10 a11 a12 : Option Value} {z : Int} (hd : dn cc pc (.istore 12) 2 pc') (hp : ncl [a0, a1, a2, a3, a4, a5, a6, a7, a8, a9, a10, a11] = true) (hn : 12 < X.nL) (kk : G X cs sl M pc' (a0 :: a1 :: a2 :: a3 :: a4 :: a5 :: a6 :: a7 :: a8 :: a9 :: a10 :: a11 :: some (iv z) :: L) st) : G X cs sl M pc (a0 :: a1 :: a2 :: a3 :: a4 :: a5 :: a6 :: a7 :: a8 :: a9 :: a10 :: a11 :: a12 :: L) (iv z :: st) := by
  obtain ⟨hd, rfl⟩ := hd
  intro H locs ls hH hl hL
  exact lv_istore hC.1 hC.2.1 hd hL hn rfl (fun ls' h' => kk H locs ls' hH hl (lo_sub h' (st_sub1 (pre := [a0, a1, a2, a3, a4, a5, a6, a7, a8, a9, a10, a11]) (a := a12) hp)))
theorem g_ast12 (hC : Cx X own cc rt nm hh) {a0 a1 a2 a3 a4 a5 a6 a7 a8 a9 a10 a11 a12 : Option Value} {z : Nat} (hd : dn cc pc (.astore 12) 2 pc') (hp : ncl [a0, a1, a2, a3, a4, a5, a6, a7, a8, a9, a10, a11] = true) (hn : 12 < X.nL) (kk : G X cs sl M pc' (a0 :: a1 :: a2 :: a3 :: a4 :: a5 :: a6 :: a7 :: a8 :: a9 :: a10 :: a11 :: some (.ref z) :: L) st) : G X cs sl M pc (a0 :: a1 :: a2 :: a3 :: a4 :: a5 :: a6 :: a7 :: a8 :: a9 :: a10 :: a11 :: a12 :: L) (.ref z :: st) := by
  obtain ⟨hd, rfl⟩ := hd
  intro H locs ls hH hl hL
  exact lv_astore hC.1 hC.2.1 hd hL hn rfl (fun ls' h' => kk H locs ls' hH hl (lo_sub h' (st_sub1 (pre := [a0, a1, a2, a3, a4, a5, a6, a7, a8, a9, a10, a11]) (a := a12) hp)))
theorem g_lst12 (hC : Cx X own cc rt nm hh) {a0 a1 a2 a3 a4 a5 a6 a7 a8 a9 a10 a11 a12 b : Option Value} {z : Int} (hd : dn cc pc (.lstore 12) 2 pc') (hp : ncl [a0, a1, a2, a3, a4, a5, a6, a7, a8, a9, a10, a11] = true) (hn : 13 < X.nL) (kk : G X cs sl M pc' (a0 :: a1 :: a2 :: a3 :: a4 :: a5 :: a6 :: a7 :: a8 :: a9 :: a10 :: a11 :: some (jv z) :: none :: L) st) : G X cs sl M pc (a0 :: a1 :: a2 :: a3 :: a4 :: a5 :: a6 :: a7 :: a8 :: a9 :: a10 :: a11 :: a12 :: b :: L) (jv z :: st) := by
  obtain ⟨hd, rfl⟩ := hd
  intro H locs ls hH hl hL
  exact lv_lstore hC.1 hC.2.1 hd hL hn rfl (fun ls' h' => kk H locs ls' hH hl (lo_sub h' (st_sub2 (pre := [a0, a1, a2, a3, a4, a5, a6, a7, a8, a9, a10, a11]) (a := a12) (b := b) hp)))
theorem g_inc12 (hC : Cx X own cc rt nm hh) {a0 a1 a2 a3 a4 a5 a6 a7 a8 a9 a10 a11 : Option Value} {z n : Int} (hd : dn cc pc (.iinc 12 n) 3 pc') (hp : ncl [a0, a1, a2, a3, a4, a5, a6, a7, a8, a9, a10, a11] = true) (hn : 12 < X.nL) (kk : G X cs sl M pc' (a0 :: a1 :: a2 :: a3 :: a4 :: a5 :: a6 :: a7 :: a8 :: a9 :: a10 :: a11 :: some (iv (z + n)) :: L) st) : G X cs sl M pc (a0 :: a1 :: a2 :: a3 :: a4 :: a5 :: a6 :: a7 :: a8 :: a9 :: a10 :: a11 :: some (iv z) :: L) st := by
  obtain ⟨hd, rfl⟩ := hd
  intro H locs ls hH hl hL
  obtain ⟨j, hj⟩ := List.getElem?_of_mem (lp_mem (a0 :: a1 :: a2 :: a3 :: a4 :: a5 :: a6 :: a7 :: a8 :: a9 :: a10 :: a11 :: some (iv z) :: L) 0 12 (iv z) rfl)
  exact lv_iinc hC.1 hC.2.1 hd hL (k := j) (by rw [hj, Nat.zero_add]; rfl) (iadd_ok z n) hn rfl (fun ls' h' => kk H locs ls' hH hl (lo_sub h' (st_sub1 (pre := [a0, a1, a2, a3, a4, a5, a6, a7, a8, a9, a10, a11]) (a := some (iv z)) hp)))
theorem g_fg13 {a0 a1 a2 a3 a4 a5 a6 a7 a8 a9 a10 a11 a12 a13 : Option Value} (kk : G X cs sl M pc (a0 :: a1 :: a2 :: a3 :: a4 :: a5 :: a6 :: a7 :: a8 :: a9 :: a10 :: a11 :: a12 :: none :: L) st) : G X cs sl M pc (a0 :: a1 :: a2 :: a3 :: a4 :: a5 :: a6 :: a7 :: a8 :: a9 :: a10 :: a11 :: a12 :: a13 :: L) st :=
  fun H locs ls hH hl hL => kk H locs ls hH hl (lo_wk hL (fun k v hk => by
    match k, hk with
    | 0, hk => exact hk
    | 1, hk => exact hk
    | 2, hk => exact hk
    | 3, hk => exact hk
    | 4, hk => exact hk
    | 5, hk => exact hk
    | 6, hk => exact hk
    | 7, hk => exact hk
    | 8, hk => exact hk
    | 9, hk => exact hk
    | 10, hk => exact hk
    | 11, hk => exact hk
    | 12, hk => exact hk
    | 13, hk => exact absurd hk (by simp)
    | k + 14, hk => exact hk))
theorem g_ist13 (hC : Cx X own cc rt nm hh) {a0 a1 a2 a3 a4 a5 a6 a7 a8 a9 a10 a11 a12 a13 : Option Value} {z : Int} (hd : dn cc pc (.istore 13) 2 pc') (hp : ncl [a0, a1, a2, a3, a4, a5, a6, a7, a8, a9, a10, a11, a12] = true) (hn : 13 < X.nL) (kk : G X cs sl M pc' (a0 :: a1 :: a2 :: a3 :: a4 :: a5 :: a6 :: a7 :: a8 :: a9 :: a10 :: a11 :: a12 :: some (iv z) :: L) st) : G X cs sl M pc (a0 :: a1 :: a2 :: a3 :: a4 :: a5 :: a6 :: a7 :: a8 :: a9 :: a10 :: a11 :: a12 :: a13 :: L) (iv z :: st) := by
  obtain ⟨hd, rfl⟩ := hd
  intro H locs ls hH hl hL
  exact lv_istore hC.1 hC.2.1 hd hL hn rfl (fun ls' h' => kk H locs ls' hH hl (lo_sub h' (st_sub1 (pre := [a0, a1, a2, a3, a4, a5, a6, a7, a8, a9, a10, a11, a12]) (a := a13) hp)))
theorem g_ast13 (hC : Cx X own cc rt nm hh) {a0 a1 a2 a3 a4 a5 a6 a7 a8 a9 a10 a11 a12 a13 : Option Value} {z : Nat} (hd : dn cc pc (.astore 13) 2 pc') (hp : ncl [a0, a1, a2, a3, a4, a5, a6, a7, a8, a9, a10, a11, a12] = true) (hn : 13 < X.nL) (kk : G X cs sl M pc' (a0 :: a1 :: a2 :: a3 :: a4 :: a5 :: a6 :: a7 :: a8 :: a9 :: a10 :: a11 :: a12 :: some (.ref z) :: L) st) : G X cs sl M pc (a0 :: a1 :: a2 :: a3 :: a4 :: a5 :: a6 :: a7 :: a8 :: a9 :: a10 :: a11 :: a12 :: a13 :: L) (.ref z :: st) := by
  obtain ⟨hd, rfl⟩ := hd
  intro H locs ls hH hl hL
  exact lv_astore hC.1 hC.2.1 hd hL hn rfl (fun ls' h' => kk H locs ls' hH hl (lo_sub h' (st_sub1 (pre := [a0, a1, a2, a3, a4, a5, a6, a7, a8, a9, a10, a11, a12]) (a := a13) hp)))
theorem g_lst13 (hC : Cx X own cc rt nm hh) {a0 a1 a2 a3 a4 a5 a6 a7 a8 a9 a10 a11 a12 a13 b : Option Value} {z : Int} (hd : dn cc pc (.lstore 13) 2 pc') (hp : ncl [a0, a1, a2, a3, a4, a5, a6, a7, a8, a9, a10, a11, a12] = true) (hn : 14 < X.nL) (kk : G X cs sl M pc' (a0 :: a1 :: a2 :: a3 :: a4 :: a5 :: a6 :: a7 :: a8 :: a9 :: a10 :: a11 :: a12 :: some (jv z) :: none :: L) st) : G X cs sl M pc (a0 :: a1 :: a2 :: a3 :: a4 :: a5 :: a6 :: a7 :: a8 :: a9 :: a10 :: a11 :: a12 :: a13 :: b :: L) (jv z :: st) := by
  obtain ⟨hd, rfl⟩ := hd
  intro H locs ls hH hl hL
  exact lv_lstore hC.1 hC.2.1 hd hL hn rfl (fun ls' h' => kk H locs ls' hH hl (lo_sub h' (st_sub2 (pre := [a0, a1, a2, a3, a4, a5, a6, a7, a8, a9, a10, a11, a12]) (a := a13) (b := b) hp)))
theorem g_inc13 (hC : Cx X own cc rt nm hh) {a0 a1 a2 a3 a4 a5 a6 a7 a8 a9 a10 a11 a12 : Option Value} {z n : Int} (hd : dn cc pc (.iinc 13 n) 3 pc') (hp : ncl [a0, a1, a2, a3, a4, a5, a6, a7, a8, a9, a10, a11, a12] = true) (hn : 13 < X.nL) (kk : G X cs sl M pc' (a0 :: a1 :: a2 :: a3 :: a4 :: a5 :: a6 :: a7 :: a8 :: a9 :: a10 :: a11 :: a12 :: some (iv (z + n)) :: L) st) : G X cs sl M pc (a0 :: a1 :: a2 :: a3 :: a4 :: a5 :: a6 :: a7 :: a8 :: a9 :: a10 :: a11 :: a12 :: some (iv z) :: L) st := by
  obtain ⟨hd, rfl⟩ := hd
  intro H locs ls hH hl hL
  obtain ⟨j, hj⟩ := List.getElem?_of_mem (lp_mem (a0 :: a1 :: a2 :: a3 :: a4 :: a5 :: a6 :: a7 :: a8 :: a9 :: a10 :: a11 :: a12 :: some (iv z) :: L) 0 13 (iv z) rfl)
  exact lv_iinc hC.1 hC.2.1 hd hL (k := j) (by rw [hj, Nat.zero_add]; rfl) (iadd_ok z n) hn rfl (fun ls' h' => kk H locs ls' hH hl (lo_sub h' (st_sub1 (pre := [a0, a1, a2, a3, a4, a5, a6, a7, a8, a9, a10, a11, a12]) (a := some (iv z)) hp)))
theorem g_fg14 {a0 a1 a2 a3 a4 a5 a6 a7 a8 a9 a10 a11 a12 a13 a14 : Option Value} (kk : G X cs sl M pc (a0 :: a1 :: a2 :: a3 :: a4 :: a5 :: a6 :: a7 :: a8 :: a9 :: a10 :: a11 :: a12 :: a13 :: none :: L) st) : G X cs sl M pc (a0 :: a1 :: a2 :: a3 :: a4 :: a5 :: a6 :: a7 :: a8 :: a9 :: a10 :: a11 :: a12 :: a13 :: a14 :: L) st :=
  fun H locs ls hH hl hL => kk H locs ls hH hl (lo_wk hL (fun k v hk => by
    match k, hk with
    | 0, hk => exact hk
    | 1, hk => exact hk
    | 2, hk => exact hk
    | 3, hk => exact hk
    | 4, hk => exact hk
    | 5, hk => exact hk
    | 6, hk => exact hk
    | 7, hk => exact hk
    | 8, hk => exact hk
    | 9, hk => exact hk
    | 10, hk => exact hk
    | 11, hk => exact hk
    | 12, hk => exact hk
    | 13, hk => exact hk
    | 14, hk => exact absurd hk (by simp)
    | k + 15, hk => exact hk))
theorem g_ist14 (hC : Cx X own cc rt nm hh) {a0 a1 a2 a3 a4 a5 a6 a7 a8 a9 a10 a11 a12 a13 a14 : Option Value} {z : Int} (hd : dn cc pc (.istore 14) 2 pc') (hp : ncl [a0, a1, a2, a3, a4, a5, a6, a7, a8, a9, a10, a11, a12, a13] = true) (hn : 14 < X.nL) (kk : G X cs sl M pc' (a0 :: a1 :: a2 :: a3 :: a4 :: a5 :: a6 :: a7 :: a8 :: a9 :: a10 :: a11 :: a12 :: a13 :: some (iv z) :: L) st) : G X cs sl M pc (a0 :: a1 :: a2 :: a3 :: a4 :: a5 :: a6 :: a7 :: a8 :: a9 :: a10 :: a11 :: a12 :: a13 :: a14 :: L) (iv z :: st) := by
  obtain ⟨hd, rfl⟩ := hd
  intro H locs ls hH hl hL
  exact lv_istore hC.1 hC.2.1 hd hL hn rfl (fun ls' h' => kk H locs ls' hH hl (lo_sub h' (st_sub1 (pre := [a0, a1, a2, a3, a4, a5, a6, a7, a8, a9, a10, a11, a12, a13]) (a := a14) hp)))
theorem g_ast14 (hC : Cx X own cc rt nm hh) {a0 a1 a2 a3 a4 a5 a6 a7 a8 a9 a10 a11 a12 a13 a14 : Option Value} {z : Nat} (hd : dn cc pc (.astore 14) 2 pc') (hp : ncl [a0, a1, a2, a3, a4, a5, a6, a7, a8, a9, a10, a11, a12, a13] = true) (hn : 14 < X.nL) (kk : G X cs sl M pc' (a0 :: a1 :: a2 :: a3 :: a4 :: a5 :: a6 :: a7 :: a8 :: a9 :: a10 :: a11 :: a12 :: a13 :: some (.ref z) :: L) st) : G X cs sl M pc (a0 :: a1 :: a2 :: a3 :: a4 :: a5 :: a6 :: a7 :: a8 :: a9 :: a10 :: a11 :: a12 :: a13 :: a14 :: L) (.ref z :: st) := by
  obtain ⟨hd, rfl⟩ := hd
  intro H locs ls hH hl hL
  exact lv_astore hC.1 hC.2.1 hd hL hn rfl (fun ls' h' => kk H locs ls' hH hl (lo_sub h' (st_sub1 (pre := [a0, a1, a2, a3, a4, a5, a6, a7, a8, a9, a10, a11, a12, a13]) (a := a14) hp)))
theorem g_lst14 (hC : Cx X own cc rt nm hh) {a0 a1 a2 a3 a4 a5 a6 a7 a8 a9 a10 a11 a12 a13 a14 b : Option Value} {z : Int} (hd : dn cc pc (.lstore 14) 2 pc') (hp : ncl [a0, a1, a2, a3, a4, a5, a6, a7, a8, a9, a10, a11, a12, a13] = true) (hn : 15 < X.nL) (kk : G X cs sl M pc' (a0 :: a1 :: a2 :: a3 :: a4 :: a5 :: a6 :: a7 :: a8 :: a9 :: a10 :: a11 :: a12 :: a13 :: some (jv z) :: none :: L) st) : G X cs sl M pc (a0 :: a1 :: a2 :: a3 :: a4 :: a5 :: a6 :: a7 :: a8 :: a9 :: a10 :: a11 :: a12 :: a13 :: a14 :: b :: L) (jv z :: st) := by
  obtain ⟨hd, rfl⟩ := hd
  intro H locs ls hH hl hL
  exact lv_lstore hC.1 hC.2.1 hd hL hn rfl (fun ls' h' => kk H locs ls' hH hl (lo_sub h' (st_sub2 (pre := [a0, a1, a2, a3, a4, a5, a6, a7, a8, a9, a10, a11, a12, a13]) (a := a14) (b := b) hp)))
theorem g_inc14 (hC : Cx X own cc rt nm hh) {a0 a1 a2 a3 a4 a5 a6 a7 a8 a9 a10 a11 a12 a13 : Option Value} {z n : Int} (hd : dn cc pc (.iinc 14 n) 3 pc') (hp : ncl [a0, a1, a2, a3, a4, a5, a6, a7, a8, a9, a10, a11, a12, a13] = true) (hn : 14 < X.nL) (kk : G X cs sl M pc' (a0 :: a1 :: a2 :: a3 :: a4 :: a5 :: a6 :: a7 :: a8 :: a9 :: a10 :: a11 :: a12 :: a13 :: some (iv (z + n)) :: L) st) : G X cs sl M pc (a0 :: a1 :: a2 :: a3 :: a4 :: a5 :: a6 :: a7 :: a8 :: a9 :: a10 :: a11 :: a12 :: a13 :: some (iv z) :: L) st := by
  obtain ⟨hd, rfl⟩ := hd
  intro H locs ls hH hl hL
  obtain ⟨j, hj⟩ := List.getElem?_of_mem (lp_mem (a0 :: a1 :: a2 :: a3 :: a4 :: a5 :: a6 :: a7 :: a8 :: a9 :: a10 :: a11 :: a12 :: a13 :: some (iv z) :: L) 0 14 (iv z) rfl)
  exact lv_iinc hC.1 hC.2.1 hd hL (k := j) (by rw [hj, Nat.zero_add]; rfl) (iadd_ok z n) hn rfl (fun ls' h' => kk H locs ls' hH hl (lo_sub h' (st_sub1 (pre := [a0, a1, a2, a3, a4, a5, a6, a7, a8, a9, a10, a11, a12, a13]) (a := some (iv z)) hp)))
theorem g_fg15 {a0 a1 a2 a3 a4 a5 a6 a7 a8 a9 a10 a11 a12 a13 a14 a15 : Option Value} (kk : G X cs sl M pc (a0 :: a1 :: a2 :: a3 :: a4 :: a5 :: a6 :: a7 :: a8 :: a9 :: a10 :: a11 :: a12 :: a13 :: a14 :: none :: L) st) : G X cs sl M pc (a0 :: a1 :: a2 :: a3 :: a4 :: a5 :: a6 :: a7 :: a8 :: a9 :: a10 :: a11 :: a12 :: a13 :: a14 :: a15 :: L) st :=
  fun H locs ls hH hl hL => kk H locs ls hH hl (lo_wk hL (fun k v hk => by
    match k, hk with
    | 0, hk => exact hk
    | 1, hk => exact hk
    | 2, hk => exact hk
    | 3, hk => exact hk
    | 4, hk => exact hk
    | 5, hk => exact hk
    | 6, hk => exact hk
    | 7, hk => exact hk
    | 8, hk => exact hk
    | 9, hk => exact hk
    | 10, hk => exact hk
    | 11, hk => exact hk
    | 12, hk => exact hk
    | 13, hk => exact hk
    | 14, hk => exact hk
    | 15, hk => exact absurd hk (by simp)
    | k + 16, hk => exact hk))
theorem g_ist15 (hC : Cx X own cc rt nm hh) {a0 a1 a2 a3 a4 a5 a6 a7 a8 a9 a10 a11 a12 a13 a14 a15 : Option Value} {z : Int} (hd : dn cc pc (.istore 15) 2 pc') (hp : ncl [a0, a1, a2, a3, a4, a5, a6, a7, a8, a9, a10, a11, a12, a13, a14] = true) (hn : 15 < X.nL) (kk : G X cs sl M pc' (a0 :: a1 :: a2 :: a3 :: a4 :: a5 :: a6 :: a7 :: a8 :: a9 :: a10 :: a11 :: a12 :: a13 :: a14 :: some (iv z) :: L) st) : G X cs sl M pc (a0 :: a1 :: a2 :: a3 :: a4 :: a5 :: a6 :: a7 :: a8 :: a9 :: a10 :: a11 :: a12 :: a13 :: a14 :: a15 :: L) (iv z :: st) := by
  obtain ⟨hd, rfl⟩ := hd
  intro H locs ls hH hl hL
  exact lv_istore hC.1 hC.2.1 hd hL hn rfl (fun ls' h' => kk H locs ls' hH hl (lo_sub h' (st_sub1 (pre := [a0, a1, a2, a3, a4, a5, a6, a7, a8, a9, a10, a11, a12, a13, a14]) (a := a15) hp)))
theorem g_ast15 (hC : Cx X own cc rt nm hh) {a0 a1 a2 a3 a4 a5 a6 a7 a8 a9 a10 a11 a12 a13 a14 a15 : Option Value} {z : Nat} (hd : dn cc pc (.astore 15) 2 pc') (hp : ncl [a0, a1, a2, a3, a4, a5, a6, a7, a8, a9, a10, a11, a12, a13, a14] = true) (hn : 15 < X.nL) (kk : G X cs sl M pc' (a0 :: a1 :: a2 :: a3 :: a4 :: a5 :: a6 :: a7 :: a8 :: a9 :: a10 :: a11 :: a12 :: a13 :: a14 :: some (.ref z) :: L) st) : G X cs sl M pc (a0 :: a1 :: a2 :: a3 :: a4 :: a5 :: a6 :: a7 :: a8 :: a9 :: a10 :: a11 :: a12 :: a13 :: a14 :: a15 :: L) (.ref z :: st) := by
  obtain ⟨hd, rfl⟩ := hd
  intro H locs ls hH hl hL
  exact lv_astore hC.1 hC.2.1 hd hL hn rfl (fun ls' h' => kk H locs ls' hH hl (lo_sub h' (st_sub1 (pre := [a0, a1, a2, a3, a4, a5, a6, a7, a8, a9, a10, a11, a12, a13, a14]) (a := a15) hp)))
theorem g_lst15 (hC : Cx X own cc rt nm hh) {a0 a1 a2 a3 a4 a5 a6 a7 a8 a9 a10 a11 a12 a13 a14 a15 b : Option Value} {z : Int} (hd : dn cc pc (.lstore 15) 2 pc') (hp : ncl [a0, a1, a2, a3, a4, a5, a6, a7, a8, a9, a10, a11, a12, a13, a14] = true) (hn : 16 < X.nL) (kk : G X cs sl M pc' (a0 :: a1 :: a2 :: a3 :: a4 :: a5 :: a6 :: a7 :: a8 :: a9 :: a10 :: a11 :: a12 :: a13 :: a14 :: some (jv z) :: none :: L) st) : G X cs sl M pc (a0 :: a1 :: a2 :: a3 :: a4 :: a5 :: a6 :: a7 :: a8 :: a9 :: a10 :: a11 :: a12 :: a13 :: a14 :: a15 :: b :: L) (jv z :: st) := by
  obtain ⟨hd, rfl⟩ := hd
  intro H locs ls hH hl hL
  exact lv_lstore hC.1 hC.2.1 hd hL hn rfl (fun ls' h' => kk H locs ls' hH hl (lo_sub h' (st_sub2 (pre := [a0, a1, a2, a3, a4, a5, a6, a7, a8, a9, a10, a11, a12, a13, a14]) (a := a15) (b := b) hp)))
theorem g_inc15 (hC : Cx X own cc rt nm hh) {a0 a1 a2 a3 a4 a5 a6 a7 a8 a9 a10 a11 a12 a13 a14 : Option Value} {z n : Int} (hd : dn cc pc (.iinc 15 n) 3 pc') (hp : ncl [a0, a1, a2, a3, a4, a5, a6, a7, a8, a9, a10, a11, a12, a13, a14] = true) (hn : 15 < X.nL) (kk : G X cs sl M pc' (a0 :: a1 :: a2 :: a3 :: a4 :: a5 :: a6 :: a7 :: a8 :: a9 :: a10 :: a11 :: a12 :: a13 :: a14 :: some (iv (z + n)) :: L) st) : G X cs sl M pc (a0 :: a1 :: a2 :: a3 :: a4 :: a5 :: a6 :: a7 :: a8 :: a9 :: a10 :: a11 :: a12 :: a13 :: a14 :: some (iv z) :: L) st := by
  obtain ⟨hd, rfl⟩ := hd
  intro H locs ls hH hl hL
  obtain ⟨j, hj⟩ := List.getElem?_of_mem (lp_mem (a0 :: a1 :: a2 :: a3 :: a4 :: a5 :: a6 :: a7 :: a8 :: a9 :: a10 :: a11 :: a12 :: a13 :: a14 :: some (iv z) :: L) 0 15 (iv z) rfl)
  exact lv_iinc hC.1 hC.2.1 hd hL (k := j) (by rw [hj, Nat.zero_add]; rfl) (iadd_ok z n) hn rfl (fun ls' h' => kk H locs ls' hH hl (lo_sub h' (st_sub1 (pre := [a0, a1, a2, a3, a4, a5, a6, a7, a8, a9, a10, a11, a12, a13, a14]) (a := some (iv z)) hp)))
theorem g_fg16 {a0 a1 a2 a3 a4 a5 a6 a7 a8 a9 a10 a11 a12 a13 a14 a15 a16 : Option Value} (kk : G X cs sl M pc (a0 :: a1 :: a2 :: a3 :: a4 :: a5 :: a6 :: a7 :: a8 :: a9 :: a10 :: a11 :: a12 :: a13 :: a14 :: a15 :: none :: L) st) : G X cs sl M pc (a0 :: a1 :: a2 :: a3 :: a4 :: a5 :: a6 :: a7 :: a8 :: a9 :: a10 :: a11 :: a12 :: a13 :: a14 :: a15 :: a16 :: L) st :=
  fun H locs ls hH hl hL => kk H locs ls hH hl (lo_wk hL (fun k v hk => by
    match k, hk with
    | 0, hk => exact hk
    | 1, hk => exact hk
    | 2, hk => exact hk
    | 3, hk => exact hk
    | 4, hk => exact hk
    | 5, hk => exact hk
    | 6, hk => exact hk
    | 7, hk => exact hk
    | 8, hk => exact hk
    | 9, hk => exact hk
    | 10, hk => exact hk
    | 11, hk => exact hk
    | 12, hk => exact hk
    | 13, hk => exact hk
    | 14, hk => exact hk
    | 15, hk => exact hk
    | 16, hk => exact absurd hk (by simp)
    | k + 17, hk => exact hk))
theorem g_ist16 (hC : Cx X own cc rt nm hh) {a0 a1 a2 a3 a4 a5 a6 a7 a8 a9 a10 a11 a12 a13 a14 a15 a16 : Option Value} {z : Int} (hd : dn cc pc (.istore 16) 2 pc') (hp : ncl [a0, a1, a2, a3, a4, a5, a6, a7, a8, a9, a10, a11, a12, a13, a14, a15] = true) (hn : 16 < X.nL) (kk : G X cs sl M pc' (a0 :: a1 :: a2 :: a3 :: a4 :: a5 :: a6 :: a7 :: a8 :: a9 :: a10 :: a11 :: a12 :: a13 :: a14 :: a15 :: some (iv z) :: L) st) : G X cs sl M pc (a0 :: a1 :: a2 :: a3 :: a4 :: a5 :: a6 :: a7 :: a8 :: a9 :: a10 :: a11 :: a12 :: a13 :: a14 :: a15 :: a16 :: L) (iv z :: st) := by
  obtain ⟨hd, rfl⟩ := hd
  intro H locs ls hH hl hL
  exact lv_istore hC.1 hC.2.1 hd hL hn rfl (fun ls' h' => kk H locs ls' hH hl (lo_sub h' (st_sub1 (pre := [a0, a1, a2, a3, a4, a5, a6, a7, a8, a9, a10, a11, a12, a13, a14, a15]) (a := a16) hp)))
theorem g_ast16 (hC : Cx X own cc rt nm hh) {a0 a1 a2 a3 a4 a5 a6 a7 a8 a9 a10 a11 a12 a13 a14 a15 a16 : Option Value} {z : Nat} (hd : dn cc pc (.astore 16) 2 pc') (hp : ncl [a0, a1, a2, a3, a4, a5, a6, a7, a8, a9, a10, a11, a12, a13, a14, a15] = true) (hn : 16 < X.nL) (kk : G X cs sl M pc' (a0 :: a1 :: a2 :: a3 :: a4 :: a5 :: a6 :: a7 :: a8 :: a9 :: a10 :: a11 :: a12 :: a13 :: a14 :: a15 :: some (.ref z) :: L) st) : G X cs sl M pc (a0 :: a1 :: a2 :: a3 :: a4 :: a5 :: a6 :: a7 :: a8 :: a9 :: a10 :: a11 :: a12 :: a13 :: a14 :: a15 :: a16 :: L) (.ref z :: st) := by
  obtain ⟨hd, rfl⟩ := hd
  intro H locs ls hH hl hL
  exact lv_astore hC.1 hC.2.1 hd hL hn rfl (fun ls' h' => kk H locs ls' hH hl (lo_sub h' (st_sub1 (pre := [a0, a1, a2, a3, a4, a5, a6, a7, a8, a9, a10, a11, a12, a13, a14, a15]) (a := a16) hp)))
theorem g_lst16 (hC : Cx X own cc rt nm hh) {a0 a1 a2 a3 a4 a5 a6 a7 a8 a9 a10 a11 a12 a13 a14 a15 a16 b : Option Value} {z : Int} (hd : dn cc pc (.lstore 16) 2 pc') (hp : ncl [a0, a1, a2, a3, a4, a5, a6, a7, a8, a9, a10, a11, a12, a13, a14, a15] = true) (hn : 17 < X.nL) (kk : G X cs sl M pc' (a0 :: a1 :: a2 :: a3 :: a4 :: a5 :: a6 :: a7 :: a8 :: a9 :: a10 :: a11 :: a12 :: a13 :: a14 :: a15 :: some (jv z) :: none :: L) st) : G X cs sl M pc (a0 :: a1 :: a2 :: a3 :: a4 :: a5 :: a6 :: a7 :: a8 :: a9 :: a10 :: a11 :: a12 :: a13 :: a14 :: a15 :: a16 :: b :: L) (jv z :: st) := by
  obtain ⟨hd, rfl⟩ := hd
  intro H locs ls hH hl hL
  exact lv_lstore hC.1 hC.2.1 hd hL hn rfl (fun ls' h' => kk H locs ls' hH hl (lo_sub h' (st_sub2 (pre := [a0, a1, a2, a3, a4, a5, a6, a7, a8, a9, a10, a11, a12, a13, a14, a15]) (a := a16) (b := b) hp)))
theorem g_inc16 (hC : Cx X own cc rt nm hh) {a0 a1 a2 a3 a4 a5 a6 a7 a8 a9 a10 a11 a12 a13 a14 a15 : Option Value} {z n : Int} (hd : dn cc pc (.iinc 16 n) 3 pc') (hp : ncl [a0, a1, a2, a3, a4, a5, a6, a7, a8, a9, a10, a11, a12, a13, a14, a15] = true) (hn : 16 < X.nL) (kk : G X cs sl M pc' (a0 :: a1 :: a2 :: a3 :: a4 :: a5 :: a6 :: a7 :: a8 :: a9 :: a10 :: a11 :: a12 :: a13 :: a14 :: a15 :: some (iv (z + n)) :: L) st) : G X cs sl M pc (a0 :: a1 :: a2 :: a3 :: a4 :: a5 :: a6 :: a7 :: a8 :: a9 :: a10 :: a11 :: a12 :: a13 :: a14 :: a15 :: some (iv z) :: L) st := by
  obtain ⟨hd, rfl⟩ := hd
  intro H locs ls hH hl hL
  obtain ⟨j, hj⟩ := List.getElem?_of_mem (lp_mem (a0 :: a1 :: a2 :: a3 :: a4 :: a5 :: a6 :: a7 :: a8 :: a9 :: a10 :: a11 :: a12 :: a13 :: a14 :: a15 :: some (iv z) :: L) 0 16 (iv z) rfl)
  exact lv_iinc hC.1 hC.2.1 hd hL (k := j) (by rw [hj, Nat.zero_add]; rfl) (iadd_ok z n) hn rfl (fun ls' h' => kk H locs ls' hH hl (lo_sub h' (st_sub1 (pre := [a0, a1, a2, a3, a4, a5, a6, a7, a8, a9, a10, a11, a12, a13, a14, a15]) (a := some (iv z)) hp)))
theorem g_fg17 {a0 a1 a2 a3 a4 a5 a6 a7 a8 a9 a10 a11 a12 a13 a14 a15 a16 a17 : Option Value} (kk : G X cs sl M pc (a0 :: a1 :: a2 :: a3 :: a4 :: a5 :: a6 :: a7 :: a8 :: a9 :: a10 :: a11 :: a12 :: a13 :: a14 :: a15 :: a16 :: none :: L) st) : G X cs sl M pc (a0 :: a1 :: a2 :: a3 :: a4 :: a5 :: a6 :: a7 :: a8 :: a9 :: a10 :: a11 :: a12 :: a13 :: a14 :: a15 :: a16 :: a17 :: L) st :=
  fun H locs ls hH hl hL => kk H locs ls hH hl (lo_wk hL (fun k v hk => by
    match k, hk with
    | 0, hk => exact hk
    | 1, hk => exact hk
    | 2, hk => exact hk
    | 3, hk => exact hk
    | 4, hk => exact hk
    | 5, hk => exact hk
    | 6, hk => exact hk
    | 7, hk => exact hk
    | 8, hk => exact hk
    | 9, hk => exact hk
    | 10, hk => exact hk
    | 11, hk => exact hk
    | 12, hk => exact hk
    | 13, hk => exact hk
    | 14, hk => exact hk
    | 15, hk => exact hk
    | 16, hk => exact hk
    | 17, hk => exact absurd hk (by simp)
    | k + 18, hk => exact hk))
theorem g_ist17 (hC : Cx X own cc rt nm hh) {a0 a1 a2 a3 a4 a5 a6 a7 a8 a9 a10 a11 a12 a13 a14 a15 a16 a17 : Option Value} {z : Int} (hd : dn cc pc (.istore 17) 2 pc') (hp : ncl [a0, a1, a2, a3, a4, a5, a6, a7, a8, a9, a10, a11, a12, a13, a14, a15, a16] = true) (hn : 17 < X.nL) (kk : G X cs sl M pc' (a0 :: a1 :: a2 :: a3 :: a4 :: a5 :: a6 :: a7 :: a8 :: a9 :: a10 :: a11 :: a12 :: a13 :: a14 :: a15 :: a16 :: some (iv z) :: L) st) : G X cs sl M pc (a0 :: a1 :: a2 :: a3 :: a4 :: a5 :: a6 :: a7 :: a8 :: a9 :: a10 :: a11 :: a12 :: a13 :: a14 :: a15 :: a16 :: a17 :: L) (iv z :: st) := by
  obtain ⟨hd, rfl⟩ := hd
  intro H locs ls hH hl hL
  exact lv_istore hC.1 hC.2.1 hd hL hn rfl (fun ls' h' => kk H locs ls' hH hl (lo_sub h' (st_sub1 (pre := [a0, a1, a2, a3, a4, a5, a6, a7, a8, a9, a10, a11, a12, a13, a14, a15, a16]) (a := a17) hp)))
theorem g_ast17 (hC : Cx X own cc rt nm hh) {a0 a1 a2 a3 a4 a5 a6 a7 a8 a9 a10 a11 a12 a13 a14 a15 a16 a17 : Option Value} {z : Nat} (hd : dn cc pc (.astore 17) 2 pc') (hp : ncl [a0, a1, a2, a3, a4, a5, a6, a7, a8, a9, a10, a11, a12, a13, a14, a15, a16] = true) (hn : 17 < X.nL) (kk : G X cs sl M pc' (a0 :: a1 :: a2 :: a3 :: a4 :: a5 :: a6 :: a7 :: a8 :: a9 :: a10 :: a11 :: a12 :: a13 :: a14 :: a15 :: a16 :: some (.ref z) :: L) st) : G X cs sl M pc (a0 :: a1 :: a2 :: a3 :: a4 :: a5 :: a6 :: a7 :: a8 :: a9 :: a10 :: a11 :: a12 :: a13 :: a14 :: a15 :: a16 :: a17 :: L) (.ref z :: st) := by
  obtain ⟨hd, rfl⟩ := hd
  intro H locs ls hH hl hL
  exact lv_astore hC.1 hC.2.1 hd hL hn rfl (fun ls' h' => kk H locs ls' hH hl (lo_sub h' (st_sub1 (pre := [a0, a1, a2, a3, a4, a5, a6, a7, a8, a9, a10, a11, a12, a13, a14, a15, a16]) (a := a17) hp)))
theorem g_lst17 (hC : Cx X own cc rt nm hh) {a0 a1 a2 a3 a4 a5 a6 a7 a8 a9 a10 a11 a12 a13 a14 a15 a16 a17 b : Option Value} {z : Int} (hd : dn cc pc (.lstore 17) 2 pc') (hp : ncl [a0, a1, a2, a3, a4, a5, a6, a7, a8, a9, a10, a11, a12, a13, a14, a15, a16] = true) (hn : 18 < X.nL) (kk : G X cs sl M pc' (a0 :: a1 :: a2 :: a3 :: a4 :: a5 :: a6 :: a7 :: a8 :: a9 :: a10 :: a11 :: a12 :: a13 :: a14 :: a15 :: a16 :: some (jv z) :: none :: L) st) : G X cs sl M pc (a0 :: a1 :: a2 :: a3 :: a4 :: a5 :: a6 :: a7 :: a8 :: a9 :: a10 :: a11 :: a12 :: a13 :: a14 :: a15 :: a16 :: a17 :: b :: L) (jv z :: st) := by
  obtain ⟨hd, rfl⟩ := hd
  intro H locs ls hH hl hL
  exact lv_lstore hC.1 hC.2.1 hd hL hn rfl (fun ls' h' => kk H locs ls' hH hl (lo_sub h' (st_sub2 (pre := [a0, a1, a2, a3, a4, a5, a6, a7, a8, a9, a10, a11, a12, a13, a14, a15, a16]) (a := a17) (b := b) hp)))
theorem g_inc17 (hC : Cx X own cc rt nm hh) {a0 a1 a2 a3 a4 a5 a6 a7 a8 a9 a10 a11 a12 a13 a14 a15 a16 : Option Value} {z n : Int} (hd : dn cc pc (.iinc 17 n) 3 pc') (hp : ncl [a0, a1, a2, a3, a4, a5, a6, a7, a8, a9, a10, a11, a12, a13, a14, a15, a16] = true) (hn : 17 < X.nL) (kk : G X cs sl M pc' (a0 :: a1 :: a2 :: a3 :: a4 :: a5 :: a6 :: a7 :: a8 :: a9 :: a10 :: a11 :: a12 :: a13 :: a14 :: a15 :: a16 :: some (iv (z + n)) :: L) st) : G X cs sl M pc (a0 :: a1 :: a2 :: a3 :: a4 :: a5 :: a6 :: a7 :: a8 :: a9 :: a10 :: a11 :: a12 :: a13 :: a14 :: a15 :: a16 :: some (iv z) :: L) st := by
  obtain ⟨hd, rfl⟩ := hd
  intro H locs ls hH hl hL
  obtain ⟨j, hj⟩ := List.getElem?_of_mem (lp_mem (a0 :: a1 :: a2 :: a3 :: a4 :: a5 :: a6 :: a7 :: a8 :: a9 :: a10 :: a11 :: a12 :: a13 :: a14 :: a15 :: a16 :: some (iv z) :: L) 0 17 (iv z) rfl)
  exact lv_iinc hC.1 hC.2.1 hd hL (k := j) (by rw [hj, Nat.zero_add]; rfl) (iadd_ok z n) hn rfl (fun ls' h' => kk H locs ls' hH hl (lo_sub h' (st_sub1 (pre := [a0, a1, a2, a3, a4, a5, a6, a7, a8, a9, a10, a11, a12, a13, a14, a15, a16]) (a := some (iv z)) hp)))
end GROWS
