section
/-- the script's cells: any int -/
theorem pt_cell {post : Int32 → Prop} {L : Nat} {xs : Nat → Int32} {p : Int32} (i : Nat) (hL : L ≤ 5) (hi : i < 5) (hp : p = nI i) (H : ∀ x, post x) : wpL_cellAt post L xs () p := by
  subst hp
  unfold wpL_cellAt
  exact pk_le L i (fun _ => H 0) (fun z => ⟨pk_in i L z, H _⟩)
theorem pt_init {post : St2 → Prop} (H : ∀ b5, post (1, 0, 0, 0, 0, (fun _ => 0), (fun _ => 0), (fun _ => 0), (fun _ => 0), b5, (fun _ => 0), (fun _ => 0), (fun _ => 0), (fun _ => 0), (fun _ => 0), (fun _ => 0), (fun _ => 0), (fun _ => 0), (fun _ => 0), (fun _ => 0), (fun _ => 0), (fun _ => 0))) : wpX_init post 17 874 (0, 0, 0, 0, 0) := by
  unfold wpX_init
  dsimp only
  refine ⟨by omega, by omega, by omega, by omega, by omega, by omega, by omega, by omega, by omega, by omega, by omega, by omega, by omega, by omega, by omega, by omega, by omega, by omega, by omega, by omega, by omega, by omega, by omega, by omega, by omega, by omega, by omega, by omega, by omega, by omega, by omega, by omega, by omega, by omega, nm_e (H _)⟩
/-- out of range, as the law and the class ask it -/
def pt_out (x : Int32) : Prop := x < 0 ∨ nI 8 ≤ x
theorem pt_bad0 {post : Int32 → Prop} {t nw nb uw cp : Int32} {a1 a2 a3 a4 a5 a6 a7 a8 a9 a10 a11 a12 a13 a14 a15 a16 a17 : Nat → Int32} {j : Nat} (hj : j < 8) (H : post 0) : wpX_bad post (t, nw, nb, uw, cp, a1, a2, a3, a4, a5, a6, a7, a8, a9, a10, a11, a12, a13, a14, a15, a16, a17) (nI j) := by
  unfold wpX_bad
  exact br_f (nI_pos (by omega)) (br_t (nI_lt (b := 8) hj (by decide)) H)
theorem pt_n8 {x : Int32} (h : nI 8 ≤ x) : ¬ x < 8 := by
  intro z
  have h1 : (nI 8).toInt ≤ x.toInt := Int32.le_iff_toInt_le.mp h
  have h2 : x.toInt < (8 : Int32).toInt := Int32.lt_iff_toInt_lt.mp z
  have h3 : (nI 8).toInt = 8 := by decide
  have h4 : (8 : Int32).toInt = 8 := by decide
  omega
theorem pt_bad1 {post : Int32 → Prop} {t nw nb uw cp : Int32} {a1 a2 a3 a4 a5 a6 a7 a8 a9 a10 a11 a12 a13 a14 a15 a16 a17 : Nat → Int32} {x : Int32} (hx : pt_out x) (H : post 1) : wpX_bad post (t, nw, nb, uw, cp, a1, a2, a3, a4, a5, a6, a7, a8, a9, a10, a11, a12, a13, a14, a15, a16, a17) x := by
  unfold wpX_bad
  rcases hx with h | h
  · exact br_t h H
  · exact br_c (fun _ => H) (fun _ => br_f (pt_n8 h) H)
theorem pt_apply {post : St2 → Prop} {t nw nb uw cp : Int32} {a1 a2 a3 a4 a5 a6 a7 a8 a9 a10 a11 a12 a13 a14 a15 a16 a17 : Nat → Int32} {j : Nat} {v n : Int32} (hj : j < 8) (H : post (t, nw, nb, uw, cp, a1, a2, a3, a4, a5, a6, a7, upd a8 j v, upd a9 j n, a10, a11, a12, a13, a14, a15, a16, a17)) : wpX_apply post (t, nw, nb, uw, cp, a1, a2, a3, a4, a5, a6, a7, a8, a9, a10, a11, a12, a13, a14, a15, a16, a17) (nI j) v n := by
  unfold wpX_apply
  dsimp only
  rw [nI_clamp (show j < 2 ^ 31 by omega)]
  exact ⟨pk_in j 8 hj, nm_e ⟨pk_in j 8 hj, nm_e H⟩⟩
/-- a change of one key: the next point, one cell of the memory -/
theorem pt_change1 {post : Int32 → St2 → Prop} {t nw nb uw cp : Int32} {a1 a2 a3 a4 a5 a6 a7 a8 a9 a10 a11 a12 a13 a14 a15 a16 a17 : Nat → Int32} {e j : Nat} {v w : Int32} (hw : nw = 0) (he : e < 30) (hj : j < 8) (h7 : a7 0 = nI e) (H : ∀ b1 b2 b3 b4 b9, post (nI (e + 1)) (t, nw, nb, uw, cp, b1, b2, b3, b4, a5, a6, upd a7 0 (nI (e + 1)), upd a8 j v, b9, a10, a11, a12, a13, a14, a15, a16, a17)) : wpX_change post (t, nw, nb, uw, cp, a1, a2, a3, a4, a5, a6, a7, a8, a9, a10, a11, a12, a13, a14, a15, a16, a17) (nI j) v (-1) w := by
  subst hw
  unfold wpX_change
  dsimp only
  rw [sb_cl0, h7]
  have hne : ¬ nI e = 30 := fun z => absurd ((nI_eq (b := 30) (by omega) (by decide)).mp z) (by omega)
  refine ⟨pk_in 0 6 (by omega), br_f hne ⟨pk_in 0 6 (by omega), pk_in 0 6 (by omega), nm_r (show _ = upd a7 0 (nI (e + 1)) by rw [nI_1]) ⟨pk_in 0 6 (by omega), nm_r (show _ = nI (e + 1) from pk_us) (nm_r (show _ = nI (e + 1) by rw [Int32.zero_mul, Int32.zero_add]) ?_)⟩⟩⟩
  exact ⟨pk_in (e + 1) 186 (by omega), nm_e ⟨pk_in (e + 1) 186 (by omega), nm_e ⟨pk_in (e + 1) 186 (by omega), nm_e ⟨pk_in (e + 1) 186 (by omega), nm_e (pt_apply hj (br_t (by decide) (H _ _ _ _ _)))⟩⟩⟩⟩
/-- a change of two keys -/
theorem pt_change2 {post : Int32 → St2 → Prop} {t nw nb uw cp : Int32} {a1 a2 a3 a4 a5 a6 a7 a8 a9 a10 a11 a12 a13 a14 a15 a16 a17 : Nat → Int32} {e j i : Nat} {v w : Int32} (hw : nw = 0) (he : e < 30) (hj : j < 8) (hi : i < 8) (h7 : a7 0 = nI e) (H : ∀ b1 b2 b3 b4 b9, post (nI (e + 1)) (t, nw, nb, uw, cp, b1, b2, b3, b4, a5, a6, upd a7 0 (nI (e + 1)), upd (upd a8 j v) i w, b9, a10, a11, a12, a13, a14, a15, a16, a17)) : wpX_change post (t, nw, nb, uw, cp, a1, a2, a3, a4, a5, a6, a7, a8, a9, a10, a11, a12, a13, a14, a15, a16, a17) (nI j) v (nI i) w := by
  subst hw
  unfold wpX_change
  dsimp only
  rw [sb_cl0, h7]
  have hne : ¬ nI e = 30 := fun z => absurd ((nI_eq (b := 30) (by omega) (by decide)).mp z) (by omega)
  refine ⟨pk_in 0 6 (by omega), br_f hne ⟨pk_in 0 6 (by omega), pk_in 0 6 (by omega), nm_r (show _ = upd a7 0 (nI (e + 1)) by rw [nI_1]) ⟨pk_in 0 6 (by omega), nm_r (show _ = nI (e + 1) from pk_us) (nm_r (show _ = nI (e + 1) by rw [Int32.zero_mul, Int32.zero_add]) ?_)⟩⟩⟩
  exact ⟨pk_in (e + 1) 186 (by omega), nm_e ⟨pk_in (e + 1) 186 (by omega), nm_e ⟨pk_in (e + 1) 186 (by omega), nm_e ⟨pk_in (e + 1) 186 (by omega), nm_e (pt_apply hj (br_f (nI_pos (by omega)) (pt_apply hi (H _ _ _ _ _))))⟩⟩⟩⟩
theorem pt_set1 {post : Int32 → St2 → Prop} {t nw nb uw cp : Int32} {a1 a2 a3 a4 a5 a6 a7 a8 a9 a10 a11 a12 a13 a14 a15 a16 a17 : Nat → Int32} {e j : Nat} {v : Int32} (hw : nw = 0) (he : e < 30) (hj : j < 8) (h7 : a7 0 = nI e) (H : ∀ b1 b2 b3 b4 b9, post (nI (e + 1)) (t, nw, nb, uw, cp, b1, b2, b3, b4, a5, a6, upd a7 0 (nI (e + 1)), upd a8 j v, b9, a10, a11, a12, a13, a14, a15, a16, a17)) : wpX_set post (t, nw, nb, uw, cp, a1, a2, a3, a4, a5, a6, a7, a8, a9, a10, a11, a12, a13, a14, a15, a16, a17) (nI j) v := by
  unfold wpX_set
  dsimp only
  exact pt_bad0 hj (br_t rfl (pt_change1 hw he hj h7 (fun b1 b2 b3 b4 b9 => H b1 b2 b3 b4 b9)))
theorem pt_set0 {post : Int32 → St2 → Prop} {t nw nb uw cp : Int32} {a1 a2 a3 a4 a5 a6 a7 a8 a9 a10 a11 a12 a13 a14 a15 a16 a17 : Nat → Int32} {x v : Int32} (hx : pt_out x) (H : post (-1) (t, nw, nb, uw, cp, a1, a2, a3, a4, a5, a6, a7, a8, a9, a10, a11, a12, a13, a14, a15, a16, a17)) : wpX_set post (t, nw, nb, uw, cp, a1, a2, a3, a4, a5, a6, a7, a8, a9, a10, a11, a12, a13, a14, a15, a16, a17) x v := by
  unfold wpX_set
  dsimp only
  exact pt_bad1 hx (br_f (by decide) H)
theorem pt_exch1 {post : Int32 → St2 → Prop} {t nw nb uw cp : Int32} {a1 a2 a3 a4 a5 a6 a7 a8 a9 a10 a11 a12 a13 a14 a15 a16 a17 : Nat → Int32} {e j i : Nat} (hw : nw = 0) (he : e < 30) (hj : j < 8) (hi : i < 8) (h7 : a7 0 = nI e) (H : ∀ b1 b2 b3 b4 b9, post (nI (e + 1)) (t, nw, nb, uw, cp, b1, b2, b3, b4, a5, a6, upd a7 0 (nI (e + 1)), upd (upd a8 j (a8 i)) i (a8 j), b9, a10, a11, a12, a13, a14, a15, a16, a17)) : wpX_exchange post (t, nw, nb, uw, cp, a1, a2, a3, a4, a5, a6, a7, a8, a9, a10, a11, a12, a13, a14, a15, a16, a17) (nI j) (nI i) := by
  unfold wpX_exchange
  dsimp only
  rw [nI_clamp (show j < 2 ^ 31 by omega), nI_clamp (show i < 2 ^ 31 by omega)]
  exact pt_bad0 hj (br_t rfl (pt_bad0 hi (br_t rfl ⟨pk_in i 8 hi, pk_in j 8 hj, pt_change2 hw he hj hi h7 (fun b1 b2 b3 b4 b9 => H b1 b2 b3 b4 b9)⟩)))
theorem pt_exchK {post : Int32 → St2 → Prop} {t nw nb uw cp : Int32} {a1 a2 a3 a4 a5 a6 a7 a8 a9 a10 a11 a12 a13 a14 a15 a16 a17 : Nat → Int32} {x y : Int32} (hx : pt_out x) (H : post (-1) (t, nw, nb, uw, cp, a1, a2, a3, a4, a5, a6, a7, a8, a9, a10, a11, a12, a13, a14, a15, a16, a17)) : wpX_exchange post (t, nw, nb, uw, cp, a1, a2, a3, a4, a5, a6, a7, a8, a9, a10, a11, a12, a13, a14, a15, a16, a17) x y := by
  unfold wpX_exchange
  dsimp only
  exact pt_bad1 hx (br_f (by decide) H)
theorem pt_exchL {post : Int32 → St2 → Prop} {t nw nb uw cp : Int32} {a1 a2 a3 a4 a5 a6 a7 a8 a9 a10 a11 a12 a13 a14 a15 a16 a17 : Nat → Int32} {j : Nat} {y : Int32} (hj : j < 8) (hy : pt_out y) (H : post (-1) (t, nw, nb, uw, cp, a1, a2, a3, a4, a5, a6, a7, a8, a9, a10, a11, a12, a13, a14, a15, a16, a17)) : wpX_exchange post (t, nw, nb, uw, cp, a1, a2, a3, a4, a5, a6, a7, a8, a9, a10, a11, a12, a13, a14, a15, a16, a17) (nI j) y := by
  unfold wpX_exchange
  dsimp only
  exact pt_bad0 hj (br_t rfl (pt_bad1 hy (br_f (by decide) H)))
theorem pt_add1 {post : Int32 → St2 → Prop} {t nw nb uw cp : Int32} {a1 a2 a3 a4 a5 a6 a7 a8 a9 a10 a11 a12 a13 a14 a15 a16 a17 : Nat → Int32} {e j : Nat} {d : Int32} (hw : nw = 0) (he : e < 30) (hj : j < 8) (h7 : a7 0 = nI e) (H : ∀ b1 b2 b3 b4 b9, post (nI (e + 1)) (t, nw, nb, uw, cp, b1, b2, b3, b4, a5, a6, upd a7 0 (nI (e + 1)), upd a8 j (a8 j + d), b9, a10, a11, a12, a13, a14, a15, a16, a17)) : wpX_add post (t, nw, nb, uw, cp, a1, a2, a3, a4, a5, a6, a7, a8, a9, a10, a11, a12, a13, a14, a15, a16, a17) (nI j) d := by
  unfold wpX_add
  dsimp only
  rw [nI_clamp (show j < 2 ^ 31 by omega)]
  exact pt_bad0 hj (br_t rfl ⟨pk_in j 8 hj, pt_change1 hw he hj h7 (fun b1 b2 b3 b4 b9 => H b1 b2 b3 b4 b9)⟩)
theorem pt_add0 {post : Int32 → St2 → Prop} {t nw nb uw cp : Int32} {a1 a2 a3 a4 a5 a6 a7 a8 a9 a10 a11 a12 a13 a14 a15 a16 a17 : Nat → Int32} {x d : Int32} (hx : pt_out x) (H : post (-1) (t, nw, nb, uw, cp, a1, a2, a3, a4, a5, a6, a7, a8, a9, a10, a11, a12, a13, a14, a15, a16, a17)) : wpX_add post (t, nw, nb, uw, cp, a1, a2, a3, a4, a5, a6, a7, a8, a9, a10, a11, a12, a13, a14, a15, a16, a17) x d := by
  unfold wpX_add
  dsimp only
  exact pt_bad1 hx (br_f (by decide) H)
theorem pt_get1 {post : Int32 → Prop} {t nw nb uw cp : Int32} {a1 a2 a3 a4 a5 a6 a7 a8 a9 a10 a11 a12 a13 a14 a15 a16 a17 : Nat → Int32} {j : Nat} (hj : j < 8) (H : post (a8 j)) : wpX_get post (t, nw, nb, uw, cp, a1, a2, a3, a4, a5, a6, a7, a8, a9, a10, a11, a12, a13, a14, a15, a16, a17) (nI j) := by
  unfold wpX_get
  dsimp only
  rw [nI_clamp (show j < 2 ^ 31 by omega)]
  exact pt_bad0 hj (br_t rfl ⟨pk_in j 8 hj, H⟩)
theorem pt_get0 {post : Int32 → Prop} {t nw nb uw cp : Int32} {a1 a2 a3 a4 a5 a6 a7 a8 a9 a10 a11 a12 a13 a14 a15 a16 a17 : Nat → Int32} {x : Int32} (hx : pt_out x) (H : post 0) : wpX_get post (t, nw, nb, uw, cp, a1, a2, a3, a4, a5, a6, a7, a8, a9, a10, a11, a12, a13, a14, a15, a16, a17) x := by
  unfold wpX_get
  dsimp only
  exact pt_bad1 hx (br_f (by decide) H)
theorem pt_point {post : Int32 → Prop} {t nw nb uw cp : Int32} {a1 a2 a3 a4 a5 a6 a7 a8 a9 a10 a11 a12 a13 a14 a15 a16 a17 : Nat → Int32} (hw : nw = 0) (H : post (a7 0)) : wpX_point post (t, nw, nb, uw, cp, a1, a2, a3, a4, a5, a6, a7, a8, a9, a10, a11, a12, a13, a14, a15, a16, a17) := by
  subst hw
  unfold wpX_point
  dsimp only
  rw [sb_cl0]
  exact ⟨pk_in 0 6 (by omega), H⟩
end
section
/-- writeOut: it ends, whatever it has written to the disk -/
theorem pt_wo {post : Int32 → St2 → Prop} {t nw nb uw cp : Int32} {a1 a2 a3 a4 a5 a6 a7 a8 a9 a10 a11 a12 a13 a14 a15 a16 a17 : Nat → Int32} {x : Int32} (H : ∀ r b10 b11, post r (t, nw, nb, uw, cp, a1, a2, a3, a4, a5, a6, a7, a8, a9, b10, b11, a12, a13, a14, a15, a16, a17)) : wpX_writeOut post (t, nw, nb, uw, cp, a1, a2, a3, a4, a5, a6, a7, a8, a9, a10, a11, a12, a13, a14, a15, a16, a17) x := by
  unfold wpX_writeOut
  dsimp only
  exact pk_loop (σ := Int32 × (Nat → Int32) × (Nat → Int32)) (fun n i s => wX_writeOut_4 post t nw nb uw cp n s.1 (nI i) a1 a2 a3 a4 a5 a6 a7 a8 a9 s.2.1 s.2.2 a12 a13 a14 a15 a16 a17) (fun _ _ => True) 8 0 (x, a10, a11) (by omega) trivial
    (fun n s _ => pk_le 8 8 (fun _ => H _ _ _) (fun z => absurd z (by omega)))
    (fun n i s hi _ hw => pk_le 8 i (fun z => absurd z (by omega)) (fun _ => br_c (fun _ => H _ _ _) (fun _ => ⟨pk_in i 8 hi, pk_in i 8 hi, br_c (fun _ => nm_r (nI_1 i) (hw (s.1, s.2.1, s.2.2) trivial)) (fun _ => ⟨pk_in i 8 hi, pk_in i 8 hi, fun c10 _ => ⟨pk_in i 8 hi, pk_in i 8 hi, fun c11 _ => fun c2 _ => nm_r (nI_1 i) (hw (c2, c10, c11) trivial)⟩⟩)⟩)))
/-- what a backup answers -/
def pt_B (m r : Int32) : Prop := (¬ m < 0 ∧ ¬ 8 < m ∧ r = 0) ∨ ((m < 0 ∨ 8 < m) ∧ r = -1)
theorem pt_begin {post : St2 → Prop} {t nw nb uw cp : Int32} {a1 a2 a3 a4 a5 a6 a7 a8 a9 a10 a11 a12 a13 a14 a15 a16 a17 : Nat → Int32} (hw : nw = 0) (hn : nb = 0) (H : ∀ b10 b11 b12 b13 b14, post (t, nw, nb, 1, 0, a1, a2, a3, a4, a5, a6, a7, a8, a9, b10, b11, b12, b13, b14, a15, a16, a17)) : wpX_beginBackup post (t, nw, nb, uw, cp, a1, a2, a3, a4, a5, a6, a7, a8, a9, a10, a11, a12, a13, a14, a15, a16, a17) := by
  subst hw hn
  unfold wpX_beginBackup
  dsimp only
  exact pt_wo (fun r b10 b11 => ⟨pk_in 0 4 (by omega), fun c12 _ => ⟨pk_in 0 4 (by omega), fun c13 _ => ⟨pk_in 0 6 (by omega), pk_in 0 4 (by omega), fun c14 _ => H _ _ _ _ _⟩⟩⟩)
theorem pt_b107 {post : Int32 → St2 → Prop} {t nw nb uw cp : Int32} {a1 a2 a3 a4 a5 a6 a7 a8 a9 a10 a11 a12 a13 a14 a15 a16 a17 : Nat → Int32} (hw : nw = 0) (hn : nb = 0) (H : ∀ nb' uw' b12 b15, post 0 (t, nw, nb', uw', cp, a1, a2, a3, a4, a5, a6, a7, a8, a9, a10, a11, b12, a13, a14, b15, a16, a17)) : wX_backup_107 post t nw nb uw cp a1 a2 a3 a4 a5 a6 a7 a8 a9 a10 a11 a12 a13 a14 a15 a16 a17 := by
  subst hw hn
  unfold wX_backup_107
  exact br_c (fun _ => ⟨pk_in 0 4 (by omega), fun c12 _ => ⟨pk_in 0 6 (by omega), pk_in 0 4 (by omega), fun c15 _ => fun c _ => H _ _ _ _⟩⟩) (fun _ => H _ _ _ _)
theorem pt_b25 {post : Int32 → St2 → Prop} {t nw nb uw cp : Int32} {a1 a2 a3 a4 a5 a6 a7 a8 a9 a10 a11 a12 a13 a14 a15 a16 a17 : Nat → Int32} {m : Nat} (hm : m ≤ 8) (hw : nw = 0) (hn : nb = 0) (H : ∀ nb' uw' cp' b12 b15 b16 b17, post 0 (t, nw, nb', uw', cp', a1, a2, a3, a4, a5, a6, a7, a8, a9, a10, a11, b12, a13, a14, b15, b16, b17)) : ∃ n, wX_backup_25 post (nI m) t nw nb uw n 0 0 a1 a2 a3 a4 a5 a6 a7 a8 a9 a10 a11 a12 a13 a14 a15 a16 a17 := by
  have hx : ∀ i, nb * 8 + nI i = nI i := fun i => by rw [hn, Int32.zero_mul, Int32.zero_add]
  exact pk_loop (σ := (Nat → Int32) × (Nat → Int32)) (fun n i s => wX_backup_25 post (nI m) t nw nb uw n (nI i) (nI i) a1 a2 a3 a4 a5 a6 a7 a8 a9 a10 a11 a12 a13 a14 a15 s.1 s.2) (fun _ _ => True) m 0 (a16, a17) (by omega) trivial
    (fun n s _ => pk_le m m (fun _ => pt_b107 hw hn (fun _ _ _ _ => H _ _ _ _ _ _ _)) (fun z => absurd z (by omega)))
    (fun n i s hi _ hk => pk_le m i (fun z => absurd z (by omega)) (fun _ => pk_le 8 i (fun z => absurd z (by omega)) (fun _ => ⟨pk_in i 8 (by omega), pk_in i 32 (by omega) (hx i), fun c16 _ => ⟨pk_in i 8 (by omega), pk_in i 32 (by omega) (hx i), fun c17 _ => nm_r (nI_1 i) (nm_r (nI_1 i) (hk (c16, c17) trivial))⟩⟩)))
theorem pt_backup {post : Int32 → St2 → Prop} {t nw nb uw cp : Int32} {a1 a2 a3 a4 a5 a6 a7 a8 a9 a10 a11 a12 a13 a14 a15 a16 a17 : Nat → Int32} {x : Int32} (hw : nw = 0) (hn : nb = 0) (hu : uw = 0) (H : ∀ r nb' uw' cp' b10 b11 b12 b13 b14 b15 b16 b17, pt_B x r → post r (t, nw, nb', uw', cp', a1, a2, a3, a4, a5, a6, a7, a8, a9, b10, b11, b12, b13, b14, b15, b16, b17)) : wpX_backup post (t, nw, nb, uw, cp, a1, a2, a3, a4, a5, a6, a7, a8, a9, a10, a11, a12, a13, a14, a15, a16, a17) x := by
  unfold wpX_backup
  dsimp only
  refine br_c (fun h => H _ _ _ _ _ _ _ _ _ _ _ _ (Or.inr ⟨Or.inl h, rfl⟩)) (fun h => br_c (fun h8 => br_t hu ?_) (fun h8 => H _ _ _ _ _ _ _ _ _ _ _ _ (Or.inr ⟨Or.inr (Int32.not_le.mp h8), rfl⟩)))
  have hB : pt_B x 0 := Or.inl ⟨h, Int32.not_lt.mpr h8, rfl⟩
  obtain ⟨m, hm, e⟩ := nI_of2 (M := 8) (n := 8) (by decide) h h8
  subst e
  exact pt_begin hw hn (fun b10 b11 b12 b13 b14 => pt_b25 (cp := 0) hm hw hn (fun _ _ _ _ _ _ _ => H _ _ _ _ _ _ _ _ _ _ _ _ hB))
end
section
abbrev pt_P : Int32 → St0 → Prop := fun r _ => r = 1
theorem pt_218 {mc ms kc ks : Nat} {m x10 x11 x16 z0 z1 : Int32} (hB : pt_B m x10) (h : z1 = z0) (h' : x11 = x16) : wL_lawOf_218 pt_P mc ms m x10 x11 x16 z0 z1 kc ks := by
  rcases hB with ⟨h1, h2, e⟩ | ⟨h1, e⟩
  · exact br_t h (br_f h1 (br_f h2 (br_t e (br_t h' rfl))))
  · have q : wL_lawOf_239 pt_P mc ms x11 x16 x10 kc ks := br_t (c := x10 = -1) e (br_t h' rfl)
    exact br_t h (br_c (fun _ => q) (fun n => br_t (h1.resolve_left n) q))
def pt_o7 (x : Int32) : Prop := x < 0 ∨ 7 < x
/-- both in -/
theorem pt_e11 {mc ms kc ks : Nat} {v l d m x6 x7 x8 x9 x10 x11 : Int32} (l0 : ¬ l < 0) (l7 : ¬ 7 < l) (h6 : x6 = 1) (h7 : x7 = 2) (h8 : x8 = 3) (h9 : x9 = v + d) (hB : pt_B m x10) (h11 : x11 = 3) : wL_lawOf_75 pt_P mc ms v l d m x6 x7 x8 x9 x10 x11 1 kc ks := by
  subst h6 h7 h8 h9 h11
  have n1 : ¬ (1 : Int32) = 0 := by decide
  have q : wL_lawOf_155 pt_P mc ms v d m 2 3 (v + d) x10 3 1 1 (1 + 1) (1 + 1 + 1) 1 1 kc ks :=
    br_t (c := (1 : Int32) = 1) rfl (br_f n1 (br_f n1 (br_t (c := (2 : Int32) = 1 + 1) (by decide) (br_f n1 (br_t (c := (3 : Int32) = 1 + 1 + 1) (by decide) (br_f n1 (br_f n1 (pt_218 hB rfl (by decide)))))))))
  exact br_f l0 (br_f l7 (br_f n1 (br_f n1 (br_f n1 (br_f n1 (br_f n1 q))))))
/-- the first in, the second out -/
theorem pt_e10 {mc ms kc ks : Nat} {v l d m x6 x7 x8 x9 x10 x11 : Int32} (ho : pt_o7 l) (h6 : x6 = 1) (h7 : x7 = -1) (h8 : x8 = -1) (h9 : x9 = 0) (hB : pt_B m x10) (h11 : x11 = 1) : wL_lawOf_75 pt_P mc ms v l d m x6 x7 x8 x9 x10 x11 1 kc ks := by
  subst h6 h7 h8 h9 h11
  have n1 : ¬ (1 : Int32) = 0 := by decide
  have z0 : (0 : Int32) = 0 := rfl
  have q : wL_lawOf_155 pt_P mc ms v d m (-1) (-1) 0 x10 1 1 0 1 1 1 1 kc ks :=
    br_t (c := (1 : Int32) = 1) rfl (br_f n1 (br_t z0 (br_t (c := (-1 : Int32) = -1) rfl (br_t z0 (br_t (c := (-1 : Int32) = -1) rfl (br_t z0 (pt_218 hB rfl rfl)))))))
  have q2 : wL_lawOf_91 pt_P mc ms v d m 1 (-1) (-1) 0 x10 1 1 kc ks := br_f n1 (br_f n1 (br_t z0 (br_t z0 (br_f n1 q))))
  exact br_c (fun _ => q2) (fun n => br_t (ho.resolve_left n) q2)
/-- the first out, the second in -/
theorem pt_e01 {mc ms kc ks : Nat} {v l d m x6 x7 x8 x9 x10 x11 : Int32} (l0 : ¬ l < 0) (l7 : ¬ 7 < l) (h6 : x6 = -1) (h7 : x7 = -1) (h8 : x8 = 1) (h9 : x9 = 0 + d) (hB : pt_B m x10) (h11 : x11 = 1) : wL_lawOf_75 pt_P mc ms v l d m x6 x7 x8 x9 x10 x11 0 kc ks := by
  subst h6 h7 h8 h9 h11
  have n1 : ¬ (1 : Int32) = 0 := by decide
  have z0 : (0 : Int32) = 0 := rfl
  have q : wL_lawOf_155 pt_P mc ms v d m (-1) 1 (0 + d) x10 1 0 1 0 (0 + 1) (-1) (-1) kc ks :=
    br_t (c := (-1 : Int32) = -1) rfl (br_t z0 (br_t (c := (-1 : Int32) = -1) rfl (br_f n1 (br_t (c := (1 : Int32) = 0 + 1) (by decide) (br_f n1 (br_t z0 (pt_218 hB rfl (by decide))))))))
  exact br_f l0 (br_f l7 (br_t z0 (br_t z0 (br_f n1 (br_t z0 q)))))
/-- both out -/
theorem pt_e00 {mc ms kc ks : Nat} {v l d m x6 x7 x8 x9 x10 x11 : Int32} (ho : pt_o7 l) (h6 : x6 = -1) (h7 : x7 = -1) (h8 : x8 = -1) (h9 : x9 = 0) (hB : pt_B m x10) (h11 : x11 = 0) : wL_lawOf_75 pt_P mc ms v l d m x6 x7 x8 x9 x10 x11 0 kc ks := by
  subst h6 h7 h8 h9 h11
  have z0 : (0 : Int32) = 0 := rfl
  have q : wL_lawOf_155 pt_P mc ms v d m (-1) (-1) 0 x10 0 0 0 0 0 (-1) (-1) kc ks :=
    br_t (c := (-1 : Int32) = -1) rfl (br_t z0 (br_t (c := (-1 : Int32) = -1) rfl (br_t z0 (br_t (c := (-1 : Int32) = -1) rfl (br_t z0 (pt_218 hB rfl rfl))))))
  have q2 : wL_lawOf_91 pt_P mc ms v d m (-1) (-1) (-1) 0 x10 0 0 kc ks := br_t z0 (br_t z0 (br_t z0 (br_t z0 q)))
  exact br_c (fun _ => q2) (fun n => br_t (ho.resolve_left n) q2)
/-- a key, as the class and as the law ask: out for both, or in for both -/
theorem pt_key (x : Int32) : (pt_out x ∧ pt_o7 x) ∨ (∃ j, j < 8 ∧ x = nI j ∧ ¬ x < 0 ∧ ¬ 7 < x) := by
  rcases pk_ix x (n := 8) (by decide) with h | h | ⟨j, hj, rfl⟩
  · exact Or.inl ⟨Or.inl h, Or.inl h⟩
  · refine Or.inl ⟨Or.inr h, Or.inr ?_⟩
    have h1 : (nI 8).toInt ≤ x.toInt := Int32.le_iff_toInt_le.mp h
    have h3 : (nI 8).toInt = 8 := by decide
    have h4 : (7 : Int32).toInt = 7 := by decide
    exact Int32.lt_iff_toInt_lt.mpr (by omega)
  · exact Or.inr ⟨j, hj, rfl, nI_pos (by omega), nI_nlt (a := 7) (b := j) (by omega) (by decide)⟩
theorem pt_lawOf (k v l d m : Int32) : wpL_lawOf pt_P 18 896 () k v l d m := by
  unfold wpL_lawOf
  refine ⟨by omega, by omega, 17, 874, by omega, by omega, pt_init (fun b5 => ?_)⟩
  dsimp only
  rcases pt_key k with ⟨ko, ko7⟩ | ⟨j, hj, ek, k0, k7⟩
  · rcases pt_key l with ⟨lo, lo7⟩ | ⟨i, hi, el, l0, l7⟩
    · refine pt_set0 ko ?_
      dsimp only
      refine pt_exchK ko ?_
      dsimp only
      refine pt_add0 lo ?_
      dsimp only
      refine pt_get0 lo ?_
      try dsimp only
      refine pt_backup rfl rfl rfl (fun r _ _ _ _ _ _ _ _ _ _ _ hB => ?_)
      dsimp only
      refine pt_point rfl ?_
      try dsimp only
      have q : wL_lawOf_74 pt_P 18 896 v l d m (-1) (-1) (-1) 0 r 0 (1 + 17) (22 + 874) := pt_e00 lo7 rfl rfl rfl rfl hB rfl
      exact br_c (fun _ => q) (fun n => br_t (ko7.resolve_left n) q)
    · subst el
      refine pt_set0 ko ?_
      dsimp only
      refine pt_exchK ko ?_
      dsimp only
      refine pt_add1 (e := 0) rfl (by omega) hi rfl (fun _ _ _ _ _ => ?_)
      dsimp only
      refine pt_get1 hi ?_
      try dsimp only
      refine pt_backup rfl rfl rfl (fun r _ _ _ _ _ _ _ _ _ _ _ hB => ?_)
      dsimp only
      refine pt_point rfl ?_
      try dsimp only
      rw [pk_us, pk_us]
      have q : wL_lawOf_74 pt_P 18 896 v (nI i) d m (-1) (-1) (nI (0 + 1)) (0 + d) r (nI (0 + 1)) (1 + 17) (22 + 874) := pt_e01 l0 l7 rfl rfl (by decide) rfl hB (by decide)
      exact br_c (fun _ => q) (fun n => br_t (ko7.resolve_left n) q)
  · subst ek
    rcases pt_key l with ⟨lo, lo7⟩ | ⟨i, hi, el, l0, l7⟩
    · refine pt_set1 (e := 0) rfl (by omega) hj rfl (fun _ _ _ _ _ => ?_)
      dsimp only
      refine pt_exchL hj lo ?_
      dsimp only
      refine pt_add0 lo ?_
      dsimp only
      refine pt_get0 lo ?_
      try dsimp only
      refine pt_backup rfl rfl rfl (fun r _ _ _ _ _ _ _ _ _ _ _ hB => ?_)
      dsimp only
      refine pt_point rfl ?_
      try dsimp only
      rw [pk_us]
      exact br_f k0 (br_f k7 (pt_e10 lo7 (by decide) rfl rfl rfl hB (by decide)))
    · subst el
      refine pt_set1 (e := 0) rfl (by omega) hj rfl (fun _ _ _ _ _ => ?_)
      dsimp only
      refine pt_exch1 (e := 0 + 1) rfl (by omega) hj hi pk_us (fun _ _ _ _ _ => ?_)
      dsimp only
      refine pt_add1 (e := 0 + 1 + 1) rfl (by omega) hi pk_us (fun _ _ _ _ _ => ?_)
      dsimp only
      refine pt_get1 hi ?_
      try dsimp only
      refine pt_backup rfl rfl rfl (fun r _ _ _ _ _ _ _ _ _ _ _ hB => ?_)
      dsimp only
      refine pt_point rfl ?_
      try dsimp only
      exact br_f k0 (br_f k7 (pt_e11 l0 l7 (by decide) (by decide) (by decide) (by rw [pk_us, pk_us, pk_us]) hB (pk_us.trans (by decide))))
theorem i_vc (xs : Nat → Int32) (L : Nat) (hL : L ≤ 5) : wpL_law (fun r => r = 1) L xs := by
  unfold wpL_law
  exact pt_cell 0 hL (by omega) rfl (fun k => pt_cell 1 hL (by omega) rfl (fun v => pt_cell 2 hL (by omega) rfl (fun l => pt_cell 3 hL (by omega) rfl (fun d => pt_cell 4 hL (by omega) rfl (fun m => ⟨18, 896, by omega, by omega, pt_lawOf k v l d m⟩)))))
end
