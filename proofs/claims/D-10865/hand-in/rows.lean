section
/-- a number of 1 to 255 whose seven upper bits are all clear has its lowest one -/
theorem fd_bits0 : ∀ j, j < 256 → 0 < j → ([128, 64, 32, 16, 8, 4, 2, 1] : List Int32).all (fun t => nI j &&& t == 0) = false := by decide +kernel
theorem fd_bits (j : Nat) (h : j < 256) (h0 : 0 < j) (g7 : nI j &&& 128 = 0) (g6 : nI j &&& 64 = 0) (g5 : nI j &&& 32 = 0) (g4 : nI j &&& 16 = 0) (g3 : nI j &&& 8 = 0) (g2 : nI j &&& 4 = 0) (g1 : nI j &&& 2 = 0) : ¬ nI j &&& 1 = 0 := by
  intro g
  have q := fd_bits0 j h h0
  rw [List.all_eq_false] at q
  obtain ⟨t, ht, hn⟩ := q
  rcases List.mem_cons.mp ht with rfl | ht
  · exact hn (beq_iff_eq.mpr g7)
  rcases List.mem_cons.mp ht with rfl | ht
  · exact hn (beq_iff_eq.mpr g6)
  rcases List.mem_cons.mp ht with rfl | ht
  · exact hn (beq_iff_eq.mpr g5)
  rcases List.mem_cons.mp ht with rfl | ht
  · exact hn (beq_iff_eq.mpr g4)
  rcases List.mem_cons.mp ht with rfl | ht
  · exact hn (beq_iff_eq.mpr g3)
  rcases List.mem_cons.mp ht with rfl | ht
  · exact hn (beq_iff_eq.mpr g2)
  rcases List.mem_cons.mp ht with rfl | ht
  · exact hn (beq_iff_eq.mpr g1)
  rcases List.mem_cons.mp ht with rfl | ht
  · exact hn (beq_iff_eq.mpr g)
  · exact absurd ht List.not_mem_nil
theorem fd_n1 : ¬ (1 : Int32) = 0 := by decide
theorem fd_le0 : (0 : Int32) ≤ 0 := by decide
theorem fd_le1 : (1 : Int32) ≤ 1 := by decide
theorem fd_le2 : (2 : Int32) ≤ 2 := by decide
theorem fd_nle1 : ¬ (1 : Int32) ≤ 0 := by decide
theorem fd_nle2 : ¬ (2 : Int32) ≤ 1 := by decide
theorem fd_neg : ¬ (0 : Int32) ≤ -1 := by decide
theorem fd_1m : ¬ (1 : Int32) = -1 := by decide
theorem fd_cl1 : (1 : Int32).toNatClampNeg = 1 := by decide
theorem fd_01 : (0 : Int32) + 1 = 1 := by decide
theorem fd_11 : (1 : Int32) + 1 = 2 := by decide
theorem fd_sh : ∀ k, k < 9 → (1 : Int32) <<< (nI k &&& 31) = nI (2 ^ k) := by decide +kernel
/-- one turn of topBit's loop -/
theorem fd_tb {post : Int32 → Prop} {x : Int32} (n : Nat) (t t' : Int32) (h1 : ¬ t ≤ 1) (e : t >>> ((1 : Int32) &&& 31) = t') (H : ¬ (x &&& t) = 0 → post t) (hw : (x &&& t) = 0 → wX_topBit_4 post x n t') : wX_topBit_4 post x (n + 1) t :=
  br_f h1 (br_c (fun g => nm_r e (hw g)) (fun g => H g))
/-- topBit of a number of 1 to 255 ends with a bit of it -/
theorem fd_top {post : Int32 → Prop} {j : Nat} (h0 : 0 < j) (h : j < 256) (H : ∀ t, ¬ (nI j &&& t) = 0 → post t) : wpX_topBit post () (nI j) := by
  unfold wpX_topBit
  exact ⟨8, fd_tb 7 128 64 (by decide) (by decide) (H _) (fun g7 =>
    fd_tb 6 64 32 (by decide) (by decide) (H _) (fun g6 =>
    fd_tb 5 32 16 (by decide) (by decide) (H _) (fun g5 =>
    fd_tb 4 16 8 (by decide) (by decide) (H _) (fun g4 =>
    fd_tb 3 8 4 (by decide) (by decide) (H _) (fun g3 =>
    fd_tb 2 4 2 (by decide) (by decide) (H _) (fun g2 =>
    fd_tb 1 2 1 (by decide) (by decide) (H _) (fun g1 =>
    br_t (by decide) (H 1 (fd_bits j h h0 g7 g6 g5 g4 g3 g2 g1)))))))))⟩
section
variable {post : St2 → Prop} {n c r s l lv y : Int32} {a1 a2 a3 a4 : Nat → Int32} {j : Nat}
/-- reduce where there is no row -/
theorem fd_red0 {x : Int32} (H : post (n, c, 0, s, x, y, a1, a2, a3, a4)) : wpX_reduce post (n, c, 0, s, l, lv, a1, a2, a3, a4) x y := by
  unfold wpX_reduce
  exact ⟨1, br_t (by decide) H⟩
/-- reduce a set by one row that is the same set -/
theorem fd_red1 (h0 : 0 < j) (h : j < 256) (e : a3 0 = nI j) (H : post (n, c, 1, s, 0, y ^^^ a4 0, a1, a2, a3, a4)) : wpX_reduce post (n, c, 1, s, l, lv, a1, a2, a3, a4) (nI j) y := by
  unfold wpX_reduce
  refine ⟨2, br_f (by decide) ⟨pk_in 0 8 (by omega), ?_⟩⟩
  rw [sb_cl0, e]
  exact fd_top h0 h (fun t ht => br_f ht ⟨pk_in 0 8 (by omega), nm_r Int32.xor_self ⟨pk_in 0 8 (by omega), nm_e (nm_r fd_01 (br_t (by decide) H))⟩⟩)
/-- enter the first row -/
theorem fd_ent0 (h0 : 0 < j) (h : j < 256) (H : post (n, c, 1, s, nI j, y, a1, a2, upd a3 0 (nI j), upd a4 0 y)) : wpX_enter post (n, c, 0, s, l, lv, a1, a2, a3, a4) (nI j) y := by
  unfold wpX_enter
  dsimp only
  refine fd_red0 (br_f (nI_ne0 h0 (by omega)) (fd_top h0 h (fun t _ => ⟨1, br_t fd_le0 ⟨pk_in 0 8 (by omega), ?_⟩⟩)))
  rw [sb_cl0]
  exact nm_e ⟨pk_in 0 8 (by omega), nm_e (nm_r fd_01 H)⟩
/-- enter the same set once more -/
theorem fd_ent1 (h0 : 0 < j) (h : j < 256) (e : a3 0 = nI j) (H0 : y ^^^ a4 0 = 0 → post (n, c, 1, 1, 0, y ^^^ a4 0, a1, a2, a3, a4)) (H1 : ¬ y ^^^ a4 0 = 0 → post (n, c, 1, 0, 0, y ^^^ a4 0, a1, a2, a3, a4)) : wpX_enter post (n, c, 1, 1, l, lv, a1, a2, a3, a4) (nI j) y := by
  unfold wpX_enter
  dsimp only
  exact fd_red1 h0 h e (br_t rfl (br_f fd_n1 (br_c H0 H1)))
theorem fd_ra0 (H : post (n, 0, 0, 1, l, lv, a1, a2, a3, a4)) : wpX_reduceAll post (n, 0, r, s, l, lv, a1, a2, a3, a4) (-1) := by
  unfold wpX_reduceAll
  exact ⟨1, br_t (by decide) H⟩
theorem fd_ra1 (h0 : 0 < j) (h : j < 256) (e : a1 0 = nI j) (H : post (n, 1, 1, 1, nI j, a2 0, a1, a2, upd a3 0 (nI j), upd a4 0 (a2 0))) : wpX_reduceAll post (n, 1, r, s, l, lv, a1, a2, a3, a4) (-1) := by
  unfold wpX_reduceAll
  refine ⟨2, br_f (by decide) (br_f (by decide) ⟨pk_in 0 16 (by omega), pk_in 0 16 (by omega), ?_⟩)⟩
  rw [sb_cl0, e]
  exact fd_ent0 h0 h (nm_r fd_01 (br_t (by decide) H))
theorem fd_ra2 (h0 : 0 < j) (h : j < 256) (e : a1 0 = nI j) (e1 : a1 1 = nI j)
    (H0 : a2 1 = a2 0 → ∀ z b3 b4, post (n, 2, 1, 1, 0, z, a1, a2, b3, b4)) (H1 : ¬ a2 1 = a2 0 → ∀ z b3 b4, post (n, 2, 1, 0, 0, z, a1, a2, b3, b4)) : wpX_reduceAll post (n, 2, r, s, l, lv, a1, a2, a3, a4) (-1) := by
  unfold wpX_reduceAll
  refine ⟨3, br_f (by decide) (br_f (by decide) ⟨pk_in 0 16 (by omega), pk_in 0 16 (by omega), ?_⟩)⟩
  rw [sb_cl0, e]
  refine fd_ent0 h0 h (nm_r fd_01 (br_f (by decide) (br_f (by decide) ⟨pk_in 1 16 (by omega), pk_in 1 16 (by omega), ?_⟩)))
  rw [fd_cl1, e1]
  exact fd_ent1 h0 h pk_us (fun g => nm_r fd_11 (br_t (by decide) (H0 (Int32.xor_eq_zero_iff.mp g) _ _ _))) (fun g => nm_r fd_11 (br_t (by decide) (H1 (fun q => g (Int32.xor_eq_zero_iff.mpr q)) _ _ _)))
end
section
variable {post : Int32 → St2 → Prop} {n c r s l lv x v : Int32} {a1 a2 a3 a4 : Nat → Int32} {j : Nat}
theorem fd_con0 (H : post 1 (n, 0, 0, 1, l, lv, a1, a2, a3, a4)) : wpX_consistent post (n, 0, r, s, l, lv, a1, a2, a3, a4) := by
  unfold wpX_consistent
  dsimp only
  exact fd_ra0 (br_f fd_n1 H)
theorem fd_con1 (h0 : 0 < j) (h : j < 256) (e : a1 0 = nI j) (H : ∀ r s l lv b3 b4, post 1 (n, 1, r, s, l, lv, a1, a2, b3, b4)) : wpX_consistent post (n, 1, r, s, l, lv, a1, a2, a3, a4) := by
  unfold wpX_consistent
  dsimp only
  exact fd_ra1 h0 h e (br_f fd_n1 (H _ _ _ _ _ _))
theorem fd_con2 (h0 : 0 < j) (h : j < 256) (e : a1 0 = nI j) (e1 : a1 1 = nI j)
    (H0 : a2 1 = a2 0 → ∀ r s l lv b3 b4, post 1 (n, 2, r, s, l, lv, a1, a2, b3, b4)) (H1 : ¬ a2 1 = a2 0 → ∀ r s l lv b3 b4, post 0 (n, 2, r, s, l, lv, a1, a2, b3, b4)) : wpX_consistent post (n, 2, r, s, l, lv, a1, a2, a3, a4) := by
  unfold wpX_consistent
  dsimp only
  exact fd_ra2 h0 h e e1 (fun g z b3 b4 => br_f fd_n1 (H0 g _ _ _ _ _ _)) (fun g z b3 b4 => br_t rfl (H1 g _ _ _ _ _ _))
/-- sumOf: no set of blocks -/
theorem fd_sumN (hx : x < 0 ∨ (1 : Int32) <<< (n &&& 31) ≤ x) (H : post (-1) (n, c, r, s, l, lv, a1, a2, a3, a4)) : wpX_sumOf post (n, c, r, s, l, lv, a1, a2, a3, a4) x := by
  unfold wpX_sumOf
  dsimp only
  unfold wpX_isSet
  dsimp only
  by_cases g : x < 0
  · exact br_t g (br_t rfl H)
  · exact br_f g (br_t (hx.resolve_left g) (br_t rfl H))
/-- sumOf: a set of blocks; what is behind isSet -/
theorem fd_sumG (hx : ¬ x < 0) (hn : ¬ (1 : Int32) <<< (n &&& 31) ≤ x)
    (H : wpX_reduceAll (fun u => wpX_settle (fun q u => (0 ≤ q → post q u) ∧ (¬ 0 ≤ q → post (-2) u)) u x) (n, c, r, s, l, lv, a1, a2, a3, a4) (-1)) : wpX_sumOf post (n, c, r, s, l, lv, a1, a2, a3, a4) x := by
  unfold wpX_sumOf
  dsimp only
  unfold wpX_isSet
  dsimp only
  exact br_f hx (br_f hn (br_f (by decide) H))
/-- sumOf: the empty set, no symbol -/
theorem fd_sum0 (hn : ¬ (1 : Int32) <<< (n &&& 31) ≤ 0) (H : ∀ r s l lv b3 b4, post 0 (n, 0, r, s, l, lv, a1, a2, b3, b4)) : wpX_sumOf post (n, 0, r, s, l, lv, a1, a2, a3, a4) 0 := by
  refine fd_sumG (by decide) hn (fd_ra0 ?_)
  unfold wpX_settle
  dsimp only
  exact fd_red0 (br_f fd_n1 (br_t rfl (br_t fd_le0 (H _ _ _ _ _ _))))
/-- sumOf: a set that is not empty, no symbol -/
theorem fd_sumE (hx : ¬ x < 0) (hn : ¬ (1 : Int32) <<< (n &&& 31) ≤ x) (h0 : ¬ x = 0) (H : ∀ r s l lv b3 b4, post (-2) (n, 0, r, s, l, lv, a1, a2, b3, b4)) : wpX_sumOf post (n, 0, r, s, l, lv, a1, a2, a3, a4) x := by
  refine fd_sumG hx hn (fd_ra0 ?_)
  unfold wpX_settle
  dsimp only
  exact fd_red0 (br_f fd_n1 (br_f h0 (br_f (show ¬ (0 : Int32) ≤ -1 by decide) (H _ _ _ _ _ _))))
/-- sumOf: the set of the one symbol -/
theorem fd_sum1 (hx : ¬ nI j < 0) (hn : ¬ (1 : Int32) <<< (n &&& 31) ≤ nI j) (h0 : 0 < j) (h : j < 256) (e : a1 0 = nI j) (e2 : a2 0 = v) (hv : 0 ≤ v) (H : ∀ r s l lv b3 b4, post v (n, 1, r, s, l, lv, a1, a2, b3, b4)) : wpX_sumOf post (n, 1, r, s, l, lv, a1, a2, a3, a4) (nI j) := by
  refine fd_sumG hx hn (fd_ra1 h0 h e ?_)
  unfold wpX_settle
  dsimp only
  have ev : (0 : Int32) ^^^ upd a4 0 (a2 0) 0 = v := by rw [pk_us, e2, Int32.zero_xor]
  refine fd_red1 h0 h pk_us (br_f fd_n1 (br_t rfl ?_))
  rw [ev]
  exact br_t hv (H _ _ _ _ _ _)
/-- receive: the set is refused -/
theorem fd_recN (hx : x < 1 ∨ ¬ x < (1 : Int32) <<< (n &&& 31)) (H : post (-1) (n, c, r, s, l, lv, a1, a2, a3, a4)) : wpX_receive post (n, c, r, s, l, lv, a1, a2, a3, a4) x v := by
  unfold wpX_receive
  dsimp only
  by_cases g : x < 1
  · exact br_t g H
  · exact br_f g (br_f (hx.resolve_left g) H)
/-- receive: the value is refused -/
theorem fd_recV (hx : ¬ x < 1) (hn : x < (1 : Int32) <<< (n &&& 31)) (hv : v < 0 ∨ 255 < v) (H : post (-2) (n, c, r, s, l, lv, a1, a2, a3, a4)) : wpX_receive post (n, c, r, s, l, lv, a1, a2, a3, a4) x v := by
  unfold wpX_receive
  dsimp only
  by_cases g : v < 0
  · exact br_f hx (br_t hn (br_t g H))
  · exact br_f hx (br_t hn (br_f g (br_f (Int32.not_le.mpr (hv.resolve_left g)) H)))
/-- receive: the first symbol -/
theorem fd_rec0 (hx : ¬ x < 1) (hn : x < (1 : Int32) <<< (n &&& 31)) (hv : ¬ v < 0) (hv2 : ¬ 255 < v) (H : post 0 (n, 1, r, s, l, lv, upd a1 0 x, upd a2 0 v, a3, a4)) : wpX_receive post (n, 0, r, s, l, lv, a1, a2, a3, a4) x v := by
  unfold wpX_receive
  dsimp only
  refine br_f hx (br_t hn (br_f hv (br_t (Int32.not_lt.mp hv2) (br_f (by decide) ?_))))
  unfold wpX_put
  dsimp only
  rw [sb_cl0]
  exact ⟨pk_in 0 16 (by omega), nm_e ⟨pk_in 0 16 (by omega), nm_e (nm_r fd_01 H)⟩⟩
/-- receive: the second symbol -/
theorem fd_rec1 (hx : ¬ x < 1) (hn : x < (1 : Int32) <<< (n &&& 31)) (hv : ¬ v < 0) (hv2 : ¬ 255 < v) (H : post 1 (n, 2, r, s, l, lv, upd a1 1 x, upd a2 1 v, a3, a4)) : wpX_receive post (n, 1, r, s, l, lv, a1, a2, a3, a4) x v := by
  unfold wpX_receive
  dsimp only
  refine br_f hx (br_t hn (br_f hv (br_t (Int32.not_lt.mp hv2) (br_f (by decide) ?_))))
  unfold wpX_put
  dsimp only
  rw [fd_cl1]
  exact ⟨pk_in 1 16 (by omega), nm_e ⟨pk_in 1 16 (by omega), nm_e (nm_r fd_11 H)⟩⟩
end
end
section
section
variable {post : Int32 → St0 → Prop} {mc ms kc ks : Nat} {x0 x1 x2 x3 x10 x13 z n k r s l lv : Int32} {a1 a2 a3 a4 : Nat → Int32} {j : Nat}
theorem fd_in0 {post : Int32 → Prop} {v : Int32} (hv : v < 0 ∨ 255 < v) (H : post 0) : wpL_in post () v := by
  unfold wpL_in
  by_cases g : v < 0
  · exact br_t g H
  · exact br_f g (br_t (hv.resolve_left g) H)
theorem fd_in1 {post : Int32 → Prop} {v : Int32} (hv : ¬ v < 0) (hv2 : ¬ 255 < v) (H : post 1) : wpL_in post () v := by
  unfold wpL_in
  exact br_f hv (br_f hv2 H)
theorem fd_275 (H : post 1 ()) (b1 : x10 = 0 ∨ x10 = 1) (b2 : x13 = 0 ∨ x13 = 1) (hk : k = x10 + x13) : wL_lawOf_275 post mc ms x10 x13 z z kc ks n k r s l lv a1 a2 a3 a4 := by
  unfold wL_lawOf_275
  refine br_t rfl ?_
  unfold wpX_symbols
  dsimp only
  subst hk
  rcases b1 with rfl | rfl <;> rcases b2 with rfl | rfl
  · exact br_t rfl (br_t rfl (br_t (by decide) H))
  · exact br_t rfl (br_f (by decide) (br_t (by decide) H))
  · exact br_f (by decide) (br_t rfl (br_t (by decide) H))
  · exact br_f (by decide) (br_f (by decide) (br_t (by decide) H))
theorem fd_274 (H : post 1 ()) (b1 : x10 = 0 ∨ x10 = 1) (b2 : x13 = 0 ∨ x13 = 1) (hk : k = x10 + x13) : wL_lawOf_274 post mc ms x10 x13 1 kc ks n k r s l lv a1 a2 a3 a4 := by
  unfold wL_lawOf_274
  exact fd_275 H b1 b2 hk
/-- the tail: no symbol -/
theorem fd_241a (H : post 1 ()) : wL_lawOf_241 post mc ms x2 x3 0 0 z z kc ks n 0 r s l lv a1 a2 a3 a4 := by
  unfold wL_lawOf_241
  exact br_t rfl (fd_con0 (br_t rfl (fd_274 H (.inl rfl) (.inl rfl) (by decide))))
/-- the tail: the first symbol alone -/
theorem fd_241b (H : post 1 ()) (h0 : 0 < j) (h : j < 256) (e : a1 0 = nI j) : wL_lawOf_241 post mc ms x2 x3 1 0 z z kc ks n 1 r s l lv a1 a2 a3 a4 := by
  unfold wL_lawOf_241
  exact br_t rfl (fd_con1 h0 h e (fun _ _ _ _ _ _ => br_f (by decide) (br_t rfl (fd_274 H (.inr rfl) (.inl rfl) (by decide)))))
/-- the tail: the second symbol alone -/
theorem fd_241c (H : post 1 ()) (h0 : 0 < j) (h : j < 256) (e : a1 0 = nI j) : wL_lawOf_241 post mc ms x2 x3 0 1 z z kc ks n 1 r s l lv a1 a2 a3 a4 := by
  unfold wL_lawOf_241
  exact br_t rfl (fd_con1 h0 h e (fun _ _ _ _ _ _ => br_t rfl (fd_274 H (.inl rfl) (.inr rfl) (by decide))))
/-- the tail: both symbols -/
theorem fd_241d (H : post 1 ()) (h0 : 0 < j) (h : j < 256) (e : a1 0 = nI j) (e1 : a1 1 = nI j) (e2 : a2 0 = x2) (e3 : a2 1 = x3) : wL_lawOf_241 post mc ms x2 x3 1 1 z z kc ks n 2 r s l lv a1 a2 a3 a4 := by
  unfold wL_lawOf_241
  refine br_t rfl (fd_con2 h0 h e e1 (fun g _ _ _ _ _ _ => ?_) (fun g _ _ _ _ _ _ => ?_))
  · exact br_f (by decide) (br_f (by decide) (br_t (by rw [← e2, ← e3, g]) (fd_274 H (.inr rfl) (.inr rfl) (by decide))))
  · exact br_f (by decide) (br_f (by decide) (br_f (fun q => g (by rw [e2, e3, q])) (fd_275 H (.inr rfl) (.inr rfl) (by decide))))
/-- the second receive: the set is refused -/
theorem fd_177N (H : post 1 ()) (hx : x1 < 1 ∨ ¬ x1 < (1 : Int32) <<< (n &&& 31)) : wL_lawOf_177 post mc ms x1 x2 x3 0 0 z z kc ks n 0 r s l lv a1 a2 a3 a4 := by
  unfold wL_lawOf_177
  refine br_t rfl (fd_recN hx (br_t rfl ?_))
  unfold wL_lawOf_207 wL_lawOf_208
  exact br_t rfl (fd_241a H)
/-- the second receive: the first one refused the value -/
theorem fd_177E (H : post 1 ()) (h0 : 0 < j) (h : j < 256) (hx : ¬ nI j < 1) (hn : nI j < (1 : Int32) <<< (n &&& 31)) : wL_lawOf_177 post mc ms (nI j) x2 x3 1 0 z z kc ks n 0 r s l lv a1 a2 a3 a4 := by
  unfold wL_lawOf_177
  by_cases g : x3 < 0 ∨ 255 < x3
  · refine br_t rfl (fd_recV hx hn g (br_f (by decide) (fd_in0 g (br_t rfl ?_))))
    unfold wL_lawOf_207 wL_lawOf_208
    exact br_f (by decide) (br_t rfl (fd_241a H))
  · have g1 : ¬ x3 < 0 := fun q => g (.inl q)
    have g2 : ¬ 255 < x3 := fun q => g (.inr q)
    refine br_t rfl (fd_rec0 hx hn g1 g2 (br_f (by decide) (fd_in1 g1 g2 (br_f (by decide) ?_))))
    unfold wL_lawOf_208
    exact br_f (by decide) (br_f (by decide) (br_t rfl (fd_241c H h0 h pk_us)))
/-- the second receive: the first symbol stands -/
theorem fd_177F (H : post 1 ()) (h0 : 0 < j) (h : j < 256) (hx : ¬ nI j < 1) (hn : nI j < (1 : Int32) <<< (n &&& 31)) (e : a1 0 = nI j) (e2 : a2 0 = x2) : wL_lawOf_177 post mc ms (nI j) x2 x3 1 1 z z kc ks n 1 r s l lv a1 a2 a3 a4 := by
  unfold wL_lawOf_177
  by_cases g : x3 < 0 ∨ 255 < x3
  · refine br_t rfl (fd_recV hx hn g (br_f (by decide) (fd_in0 g (br_t rfl ?_))))
    unfold wL_lawOf_207 wL_lawOf_208
    exact br_f (by decide) (br_t rfl (fd_241b H h0 h e))
  · have g1 : ¬ x3 < 0 := fun q => g (.inl q)
    have g2 : ¬ 255 < x3 := fun q => g (.inr q)
    refine br_t rfl (fd_rec1 hx hn g1 g2 (br_f (by decide) (fd_in1 g1 g2 (br_f (by decide) ?_))))
    unfold wL_lawOf_208
    exact br_f (by decide) (br_f (by decide) (br_f (by decide) (fd_241d H h0 h ((pk_un (by decide)).trans e) pk_us ((pk_un (by decide)).trans e2) pk_us)))
theorem fd_134A (H : post 1 ()) (hx : x1 < 1 ∨ ¬ x1 < (1 : Int32) <<< (n &&& 31)) (hs : x1 < 0 ∨ (1 : Int32) <<< (n &&& 31) ≤ x1) : wL_lawOf_134 post mc ms x1 x2 x3 0 0 0 z z kc ks n 0 r s l lv a1 a2 a3 a4 := by
  unfold wL_lawOf_134
  exact br_t rfl (fd_sumN hs (br_t rfl (fd_177N H hx)))
theorem fd_134B (H : post 1 ()) (hs : ¬ (1 : Int32) <<< (n &&& 31) ≤ 0) : wL_lawOf_134 post mc ms 0 x2 x3 1 0 0 z z kc ks n 0 r s l lv a1 a2 a3 a4 := by
  unfold wL_lawOf_134
  exact br_t rfl (fd_sum0 hs (fun _ _ _ _ _ _ => br_f (by decide) (br_t rfl (fd_177N H (.inl (by decide))))))
theorem fd_134E (H : post 1 ()) (h0 : 0 < j) (h : j < 256) (hx : ¬ nI j < 1) (hn : nI j < (1 : Int32) <<< (n &&& 31)) : wL_lawOf_134 post mc ms (nI j) x2 x3 1 1 0 z z kc ks n 0 r s l lv a1 a2 a3 a4 := by
  unfold wL_lawOf_134
  exact br_t rfl (fd_sumE (nI_pos (by omega)) (Int32.not_le.mpr hn) (nI_ne0 h0 (by omega)) (fun _ _ _ _ _ _ => br_f (by decide) (br_f (nI_ne0 h0 (by omega)) (br_t rfl (fd_177E H h0 h hx hn)))))
theorem fd_134F (H : post 1 ()) (h0 : 0 < j) (h : j < 256) (hx : ¬ nI j < 1) (hn : nI j < (1 : Int32) <<< (n &&& 31)) (e : a1 0 = nI j) (e2 : a2 0 = x2) (hv : ¬ x2 < 0) : wL_lawOf_134 post mc ms (nI j) x2 x3 1 1 1 z z kc ks n 1 r s l lv a1 a2 a3 a4 := by
  unfold wL_lawOf_134
  exact br_t rfl (fd_sum1 (nI_pos (by omega)) (Int32.not_le.mpr hn) h0 h e e2 (Int32.not_lt.mp hv) (fun _ _ _ _ _ _ => br_f (by decide) (br_f (nI_ne0 h0 (by omega)) (br_f (by decide) (fd_177F H h0 h hx hn e e2)))))
/-- the law from the object's making on: the set is refused -/
theorem fd_56N (H : post 1 ()) (hi : ∀ P : St2 → Prop, P (n, 0, 0, 0, 0, 0, (fun _ => 0), (fun _ => 0), (fun _ => 0), (fun _ => 0)) → wpX_init P 4 48 (0, 0, 0, 0, 0, 0) x0) (hx : x1 < 1 ∨ ¬ x1 < (1 : Int32) <<< (n &&& 31))
    {x5 : Int32} (K : ∀ r s l lv a1 a2 a3 a4, wL_lawOf_134 post 5 58 x1 x2 x3 x5 0 0 (-1) (-1) (0 + 1 + 4) (0 + 10 + 48) n 0 r s l lv a1 a2 a3 a4) : wL_lawOf_56 post 5 58 x0 x1 x2 x3 n x5 0 0 0 := by
  unfold wL_lawOf_56
  refine ⟨by omega, by omega, 4, 48, by omega, by omega, hi _ ?_⟩
  refine br_t rfl (fd_recN hx (br_t rfl ?_))
  unfold wL_lawOf_109 wL_lawOf_110
  exact br_t rfl (K _ _ _ _ _ _ _ _)
/-- the law from the object's making on: the set is taken -/
theorem fd_56G (H : post 1 ()) (hi : ∀ P : St2 → Prop, P (n, 0, 0, 0, 0, 0, (fun _ => 0), (fun _ => 0), (fun _ => 0), (fun _ => 0)) → wpX_init P 4 48 (0, 0, 0, 0, 0, 0) x0) (h0 : 0 < j) (h : j < 256) (hx : ¬ nI j < 1) (hn : nI j < (1 : Int32) <<< (n &&& 31)) : wL_lawOf_56 post 5 58 x0 (nI j) x2 x3 n 1 1 0 0 := by
  unfold wL_lawOf_56
  refine ⟨by omega, by omega, 4, 48, by omega, by omega, hi _ ?_⟩
  by_cases g : x2 < 0 ∨ 255 < x2
  · refine br_t rfl (fd_recV hx hn g (br_f (by decide) (fd_in0 g (br_t rfl ?_))))
    unfold wL_lawOf_109 wL_lawOf_110
    exact br_f (by decide) (br_t rfl (fd_134E H h0 h hx hn))
  · have g1 : ¬ x2 < 0 := fun q => g (.inl q)
    have g2 : ¬ 255 < x2 := fun q => g (.inr q)
    refine br_t rfl (fd_rec0 hx hn g1 g2 (br_f (by decide) (fd_in1 g1 g2 (br_f (by decide) ?_))))
    unfold wL_lawOf_110
    exact br_f (by decide) (br_f (by decide) (fd_134F H h0 h hx hn pk_us pk_us g1))
theorem fd_21 {m : Nat} (hm : m < 9) (H : post 1 ()) (hi : ∀ P : St2 → Prop, P (nI m, 0, 0, 0, 0, 0, (fun _ => 0), (fun _ => 0), (fun _ => 0), (fun _ => 0)) → wpX_init P 4 48 (0, 0, 0, 0, 0, 0) x0) : wL_lawOf_21 post 5 58 x0 x1 x2 x3 (nI m) 0 0 := by
  have em := fd_sh m hm
  have h8 : 2 ^ m ≤ 2 ^ 8 := Nat.pow_le_pow_right (by decide) (by omega)
  have hp : 0 < 2 ^ m := Nat.pow_pos (by decide)
  have bad : x1 < 0 ∨ (1 : Int32) <<< (nI m &&& 31) ≤ x1 → wL_lawOf_39 post 5 58 x0 x1 x2 x3 (nI m) 0 0 := by
    intro hs
    have hx : x1 < 1 ∨ ¬ x1 < (1 : Int32) <<< (nI m &&& 31) := by
      rcases hs with q | q
      · refine .inl (Int32.lt_iff_toInt_lt.mpr ?_)
        have q' : x1.toInt < 0 := Int32.lt_iff_toInt_lt.mp q
        have : (1 : Int32).toInt = 1 := by decide
        omega
      · exact .inr (Int32.not_lt.mpr q)
    unfold wL_lawOf_39 wL_lawOf_40
    refine br_t rfl ?_
    unfold wL_lawOf_55
    exact fd_56N H hi hx (fun _ _ _ _ _ _ _ _ => fd_134A H hx hs)
  unfold wL_lawOf_21
  refine br_c (fun q => bad (.inl q)) (fun q => br_c (fun q2 => bad (.inr q2)) (fun q2 => ?_))
  unfold wL_lawOf_40
  refine br_f (by decide) (br_c (fun z => ?_) (fun z => ?_))
  · subst z
    unfold wL_lawOf_55
    exact fd_56N H hi (.inl (by decide)) (fun _ _ _ _ _ _ _ _ => fd_134B H q2)
  · obtain ⟨j, hj, rfl⟩ := nI_of q
    have hn := Int32.not_le.mp q2
    rw [em] at q2
    have h1 : j < 2 ^ m := by
      rcases Nat.lt_or_ge j (2 ^ m) with t | t
      · exact t
      · exact absurd (nI_le t hj) q2
    have h0 : 0 < j := by
      rcases Nat.eq_zero_or_pos j with t | t
      · exact absurd (by rw [t]; rfl) z
      · exact t
    exact fd_56G H hi h0 (by omega) (nI_nlt (b := 1) h0 hj) hn
theorem fd_law (H : post 1 ()) : wpL_lawOf post 5 58 () x0 x1 x2 x3 := by
  unfold wpL_lawOf
  refine br_c (fun g => br_c (fun g2 => ?_) (fun g2 => ?_)) (fun g => ?_)
  · have q : ¬ x0 < 0 := by
      intro q
      have q' : x0.toInt < 0 := Int32.lt_iff_toInt_lt.mp q
      have g' : (1 : Int32).toInt ≤ x0.toInt := Int32.le_iff_toInt_le.mp g
      have : (1 : Int32).toInt = 1 := by decide
      omega
    obtain ⟨m, hm, e⟩ := nI_of2 (M := 8) (n := 8) (by decide) q g2
    subst e
    refine fd_21 (by omega) H (fun P hP => ?_)
    unfold wpX_init
    exact ⟨by omega, by omega, by omega, by omega, by omega, by omega, by omega, by omega, br_t g (br_t g2 hP)⟩
  · refine fd_21 (m := 8) (by omega) H (fun P hP => ?_)
    unfold wpX_init
    exact ⟨by omega, by omega, by omega, by omega, by omega, by omega, by omega, by omega, br_t g (br_f g2 hP)⟩
  · refine fd_21 (m := 1) (by omega) H (fun P hP => ?_)
    unfold wpX_init
    exact ⟨by omega, by omega, by omega, by omega, by omega, by omega, by omega, by omega, br_f g (br_t (by decide) hP)⟩
end
theorem fd_cell {post : Int32 → Prop} {L : Nat} {xs : Nat → Int32} {p : Int32} (k : Nat) (hk : k < 4) (hL : L ≤ 4) (e : p = nI k) (H : ∀ y, post y) : wpL_cellAt post L xs () p := by
  unfold wpL_cellAt
  subst e
  exact pk_le L k (fun _ => H _) (fun t => ⟨vp_in_nI t (by omega), H _⟩)
theorem i_vc (xs : Nat → Int32) (L : Nat) (hL : L ≤ 4) : wpL_law (fun r => r = 1) L xs := by
  unfold wpL_law
  exact fd_cell 0 (by omega) hL rfl (fun _ => fd_cell 1 (by omega) hL rfl (fun _ => fd_cell 2 (by omega) hL rfl (fun _ => fd_cell 3 (by omega) hL rfl (fun _ => ⟨5, 58, by omega, by omega, fd_law rfl⟩))))
end
