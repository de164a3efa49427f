section
section
variable {P z N O T K F : Int32} {a1 a2 a3 a4 a5 a6 : Nat → Int32}
/-- the bit of a set that holds nothing, or place 0 alone -/
theorem zt_bit0 : ∀ j, j < 10 → (((0 : Int32) >>> (nI j &&& 31)) &&& 1) = 0 := by decide +kernel
theorem zt_bit1 : ∀ j, j < 10 → 0 < j → (((1 : Int32) >>> (nI j &&& 31)) &&& 1) = 0 := by decide +kernel
theorem zt_bit1z : ¬ (((1 : Int32) >>> ((0 : Int32) &&& 31)) &&& 1) = 0 := by decide +kernel
theorem zt_small {p : Int32} {m : Nat} (hm : m < 2 ^ 31) (h0 : ¬ p < 0) (h4 : ¬ nI m ≤ p) : ∃ j : Nat, j < m ∧ p = nI j := by
  rcases pk_ix p hm with h | h | h
  · exact absurd h h0
  · exact absurd h h4
  · exact h
/-- a byte of a symbol is that symbol -/
theorem zt_byte : ∀ j, j < 4 → (nI j).toInt8.toInt32 = nI j := by decide +kernel
theorem zt_cell {post : Int32 → Prop} {L : Nat} {xs : Nat → Int32} {p : Int32} (j : Nat) (hp : p = nI j) (hj : j < 5) (hL : L ≤ 5) (h : ∀ r, post r) : wpL_cellAt post L xs () p := by
  subst hp
  unfold wpL_cellAt
  exact pk_le L j (fun _ => h 0) (fun g => ⟨vp_in_nI g (by omega), h _⟩)
theorem zt_sym {post : Int32 → Prop} {p : Int32} (hf : (p < 0 ∨ 4 ≤ p) → post 0) (ht : ¬ p < 0 → ¬ 4 ≤ p → post 1) : wpX_isSymbol post () p := by
  unfold wpX_isSymbol
  exact br_c (fun g => hf (Or.inl g)) (fun g => br_c (fun g2 => hf (Or.inr g2)) (fun g2 => ht g g2))
/-- no word -/
theorem zt_has0 {post : Int32 → Prop} (p : Int32) (h : post 0) : wpX_has post (0, z, N, O, T, K, F, a1, a2, a3, a4, a5, a6) p := by
  unfold wpX_has
  refine br_c (fun _ => h) (fun g => br_c (fun _ => h) (fun g2 => ?_))
  obtain ⟨j, hj, rfl⟩ := zt_small (m := 10) (by decide) g g2
  exact br_t (zt_bit0 j hj) h
/-- word 0 alone: asked for another -/
theorem zt_has1n {post : Int32 → Prop} {p : Int32} (hp : ¬ p = 0) (h : post 0) : wpX_has post (1, z, N, O, T, K, F, a1, a2, a3, a4, a5, a6) p := by
  unfold wpX_has
  refine br_c (fun _ => h) (fun g => br_c (fun _ => h) (fun g2 => ?_))
  obtain ⟨j, hj, rfl⟩ := zt_small (m := 10) (by decide) g g2
  refine br_t (zt_bit1 j hj ?_) h
  rcases Nat.eq_zero_or_pos j with e | e
  · exact absurd (by rw [e]; exact nI_0) hp
  · exact e
/-- word 0 alone: asked for it -/
theorem zt_has1 {post : Int32 → Prop} (h : post 1) : wpX_has post (1, z, N, O, T, K, F, a1, a2, a3, a4, a5, a6) 0 := by
  unfold wpX_has
  exact br_f (by decide) (br_f (by decide) (br_f zt_bit1z h))
theorem zt_fnd0 {post : Int32 → Prop} {j : Nat} (hj : j < 10) (h : post 0) : wpX_isFound post (P, z, N, O, T, K, 0, a1, a2, a3, a4, a5, a6) (nI j) := by
  unfold wpX_isFound
  exact br_t (zt_bit0 j hj) h
theorem zt_fnd1n {post : Int32 → Prop} {j : Nat} (hj : j < 10) (h0 : 0 < j) (h : post 0) : wpX_isFound post (P, z, N, O, T, K, 1, a1, a2, a3, a4, a5, a6) (nI j) := by
  unfold wpX_isFound
  exact br_t (zt_bit1 j hj h0) h
theorem zt_fnd1 {post : Int32 → Prop} (h : post 1) : wpX_isFound post (P, z, N, O, T, K, 1, a1, a2, a3, a4, a5, a6) 0 := by
  unfold wpX_isFound
  exact br_f zt_bit1z h
theorem zt_forg {post : Int32 → Prop} (hz : z = 0 ∨ z = 1) (h : post 0) : wpX_forgiven post (P, z, N, O, T, K, F, a1, a2, a3, a4, a5, a6) := by
  unfold wpX_forgiven
  rcases hz with rfl | rfl
  · exact br_f (by decide) h
  · exact br_f (by decide) h
end
end
section
section
variable {P z N O T K F : Int32} {a1 a2 a3 a4 a5 a6 : Nat → Int32}
theorem zt_c0 : ((0 : Int32) * 6).toNatClampNeg = 0 := by decide +kernel
theorem zt_c00 : (0 : Int32).toNatClampNeg = 0 := by decide +kernel
theorem zt_c1 : (((0 : Int32) * 6) + 1).toNatClampNeg = 1 := by decide +kernel
theorem zt_i0 {m : Nat} (h : 0 < m) (hm : m < 2 ^ 31) : vp_in 0 m := vp_in_nI (n := 0) h hm
theorem zt_one : (0 : Int32) ||| ((1 : Int32) <<< ((0 : Int32) &&& 31)) = 1 := by decide +kernel
theorem zt_two : ((1 : Int32) + 1).toInt8.toInt32 = 2 := by decide +kernel
theorem zt_begin {post : Int32 → St2 → Prop} {s w : Int32}
    (hb : (s < 0 ∨ 4 ≤ s ∨ w < 0 ∨ ¬ w ≤ 9) → post (-1) (0, z, N, O, T, K, F, a1, a2, a3, a4, a5, a6))
    (hg : ¬ s < 0 → ¬ 4 ≤ s → ¬ w < 0 → w ≤ 9 → post 0 (1, z, N, O, T, 0, F, upd a1 0 1, upd a2 0 w.toInt8.toInt32, upd a3 0 s.toInt8.toInt32, a4, a5, a6)) :
    wpX_begin post (0, z, N, O, T, K, F, a1, a2, a3, a4, a5, a6) s w := by
  unfold wpX_begin
  refine zt_sym (fun g => br_t rfl (hb (g.elim Or.inl (fun g => Or.inr (Or.inl g))))) (fun g g2 => br_f (by decide) (br_c (fun g3 => hb (Or.inr (Or.inr (Or.inl g3)))) (fun g3 => br_c (fun g4 => ⟨0 + 1, ?_⟩) (fun g4 => hb (Or.inr (Or.inr (Or.inr g4)))))))
  unfold wX_begin_21
  refine br_f (by decide) (zt_has0 0 (br_t rfl (nm_r zt_one ⟨pk_in 0 60 (by decide), nm_r (by rw [zt_c0]) ⟨zt_i0 (by decide) (by decide), nm_r (by rw [zt_c00]) ⟨zt_i0 (by decide) (by decide), nm_r (by rw [zt_c00]) (hg g g2 g3 g4)⟩⟩⟩)))
theorem zt_ext0 {post : Int32 → St2 → Prop} {w t : Int32} (h : post 0 (0, z, N, O, T, K, F, a1, a2, a3, a4, a5, a6)) :
    wpX_extend post (0, z, N, O, T, K, F, a1, a2, a3, a4, a5, a6) w t := by
  unfold wpX_extend
  exact zt_has0 w (br_t rfl h)
theorem zt_ext1 {post : Int32 → St2 → Prop} {w t : Int32} (h1 : a1 0 = 1)
    (hb : ¬ (w = 0 ∧ ¬ t < 0 ∧ ¬ 4 ≤ t) → post 0 (1, z, N, O, T, K, F, a1, a2, a3, a4, a5, a6))
    (hg : w = 0 → ¬ t < 0 → ¬ 4 ≤ t → post 1 (1, z, N, O, T, 0, F, upd a1 0 2, a2, upd a3 1 t.toInt8.toInt32, a4, a5, a6)) :
    wpX_extend post (1, z, N, O, T, K, F, a1, a2, a3, a4, a5, a6) w t := by
  unfold wpX_extend
  by_cases hw : w = 0
  · subst hw
    refine zt_has1 (br_f (by decide) (zt_sym (fun g => br_t rfl (hb (fun z => g.elim z.2.1 z.2.2))) (fun g g2 => br_f (by decide) ?_)))
    rw [zt_c00, h1, zt_c1, zt_two]
    exact ⟨zt_i0 (by decide) (by decide), br_t (by decide) ⟨zt_i0 (by decide) (by decide), pk_in 1 60 (by decide), nm_e ⟨zt_i0 (by decide) (by decide), zt_i0 (by decide) (by decide), nm_e (hg rfl g g2)⟩⟩⟩
  · exact zt_has1n hw (br_t rfl (hb (fun z => hw z.1)))
end
end
section
section
variable {P z N O T K F : Int32} {a1 a2 a3 a4 a5 a6 : Nat → Int32}
/-- the places ahead of the query's end -/
def zt_mk (z : Int32) : Int32 := ((1 : Int32) <<< (z &&& 31)) - 1
def zt_sh (x : Int32) : Int32 := x <<< ((1 : Int32) &&& 31)
def zt_mf (z x : Int32) : Int32 := (x &&& zt_mk z) &&& (-2)
def zt_mt (z x : Int32) : Int32 := (x &&& zt_mk z) &&& 1
/-- leaveOut on the three sets -/
def zt_l1 (z n o : Int32) : Int32 := o ||| zt_sh (zt_mf z n)
def zt_l2 (z n o t : Int32) : Int32 := (t ||| zt_sh (zt_mf z (zt_l1 z n o))) ||| zt_sh (zt_mt z n)
/-- advance on the three sets, ahead of leaveOut -/
def zt_vn (s n : Int32) : Int32 := zt_sh (n &&& s)
def zt_vo (z s n o : Int32) : Int32 := (zt_sh (o &&& s) ||| zt_sh (zt_mf z n)) ||| (n &&& (-2))
def zt_vt (z s n o t : Int32) : Int32 := ((zt_sh (t &&& s) ||| zt_sh (zt_mf z o)) ||| (o &&& (-2))) ||| (zt_sh (zt_mt z n) ||| (n &&& 1))
/-- advance on the three sets -/
def zt_an (s n : Int32) : Int32 := zt_vn s n
def zt_ao (z s n o : Int32) : Int32 := zt_l1 z (zt_vn s n) (zt_vo z s n o)
def zt_at (z s n o t : Int32) : Int32 := zt_l2 z (zt_vn s n) (zt_vo z s n o) (zt_vt z s n o t)
/-- reached -/
def zt_re (z n o t : Int32) : Int32 := if n &&& ((1 : Int32) <<< (z &&& 31)) = 0 then (if o &&& ((1 : Int32) <<< (z &&& 31)) = 0 then (if t &&& ((1 : Int32) <<< (z &&& 31)) = 0 then 3 else 2) else 1) else 0
theorem zt_leave {post : St2 → Prop} (h : post (P, z, N, zt_l1 z N O, zt_l2 z N O T, K, F, a1, a2, a3, a4, a5, a6)) : wpX_leaveOut post (P, z, N, O, T, K, F, a1, a2, a3, a4, a5, a6) := by
  unfold wpX_leaveOut
  exact nm_e (br_t rfl (nm_e (nm_e (br_t rfl (nm_e (nm_e (br_f (by decide) (nm_e h))))))))
theorem zt_adv {post : St2 → Prop} {c : Nat} (hc : c < 4) (h : post (P, z, zt_an (a5 c) N, zt_ao z (a5 c) N O, zt_at z (a5 c) N O T, K, F, a1, a2, a3, a4, a5, a6)) : wpX_advance post (P, z, N, O, T, K, F, a1, a2, a3, a4, a5, a6) (nI c) := by
  unfold wpX_advance
  refine ⟨vp_in_nI hc (by decide), nm_r (e' := a5 c) (by rw [nI_clamp (by omega)]) (nm_e (br_t rfl (nm_e (nm_e (br_f (by decide) (nm_e (nm_e (br_t rfl (nm_e (nm_e (zt_leave h))))))))))) ⟩
theorem zt_rea {post : Int32 → Prop} (h : post (zt_re z N O T)) : wpX_reached post (P, z, N, O, T, K, F, a1, a2, a3, a4, a5, a6) := by
  unfold wpX_reached
  unfold zt_re at h
  refine nm_e (br_c (fun g => br_c (fun g2 => br_c (fun g3 => ?_) (fun g3 => ?_)) (fun g2 => ?_)) (fun g => ?_))
  · rw [if_pos g, if_pos g2, if_pos g3] at h; exact h
  · rw [if_pos g, if_pos g2, if_neg g3] at h; exact h
  · rw [if_pos g, if_neg g2] at h; exact h
  · rw [if_neg g] at h; exact h
/-- the table of the query's places is cleared -/
theorem zt_clear {post : St2 → Prop} (H : ∀ b : Nat → Int32, (∀ j, j < 4 → b j = 0) → ∃ n, wX_setOut_22 post P z N O T K F n 0 a1 a2 a3 a4 b a6) : wpX_setOut post (P, z, N, O, T, K, F, a1, a2, a3, a4, a5, a6) := by
  unfold wpX_setOut
  exact pk_loop (fun n i s => wX_setOut_2 post P z N O T K F n (nI i) a1 a2 a3 a4 s a6) (fun i s => ∀ j, j < i → s j = 0) 4 0 a5 (by omega) (fun j hj => absurd hj (by omega))
    (fun n s h => pk_le 4 4 (fun _ => H s h) (fun g => absurd g (by omega)))
    (fun n i s hi h hw => pk_le 4 i (fun g => absurd g (by omega)) (fun _ => ⟨pk_in i 4 hi, nm_e (nm_r (nI_1 i) (hw _ (fun j hj => by
      rw [nI_clamp (by omega)]
      by_cases e : j = i
      · rw [e, pk_us]
      · rw [pk_un e]
        exact h j (by omega))))⟩))
/-- the sets at the word's beginning: no query, and a query of one symbol -/
theorem zt_set0 {post : St2 → Prop} (H : ∀ b : Nat → Int32, (∀ j, j < 4 → b j = 0) → post (P, 0, 1, 0, 0, K, F, a1, a2, a3, a4, b, a6)) : wpX_setOut post (P, 0, N, O, T, K, F, a1, a2, a3, a4, a5, a6) := by
  refine zt_clear (fun b hb => ⟨0 + 1, ?_⟩)
  unfold wX_setOut_22
  refine br_t (by decide) (zt_leave ?_)
  have e1 : zt_l1 0 1 0 = 0 := by decide +kernel
  have e2 : zt_l2 0 1 0 0 = 0 := by decide +kernel
  rw [e1, e2]
  exact H b hb
theorem zt_put : ((0 : Int32) ||| ((1 : Int32) <<< ((0 : Int32) &&& 31))).toInt8.toInt32 = 1 := by decide +kernel
theorem zt_set1 {post : St2 → Prop} {q : Nat} (hq : q < 4) (h4 : a4 0 = nI q) (H : ∀ b : Nat → Int32, (∀ j, j < 4 → b j = if j = q then 1 else 0) → post (P, 1, 1, 0, 2, K, F, a1, a2, a3, a4, b, a6)) : wpX_setOut post (P, 1, N, O, T, K, F, a1, a2, a3, a4, a5, a6) := by
  refine zt_clear (fun b hb => ⟨0 + 1 + 1, ?_⟩)
  unfold wX_setOut_22
  refine br_f (by decide) ⟨zt_i0 (by decide) (by decide), nm_r (e' := nI q) (by rw [zt_c00, h4]) ⟨vp_in_nI hq (by decide), vp_in_nI hq (by decide), nm_r (e' := upd b q 1) (by rw [nI_clamp (by omega), hb q hq, zt_put]) (nm_r (e' := 1) (by decide) ?_)⟩⟩
  unfold wX_setOut_22
  refine br_t (by decide) (zt_leave ?_)
  have e1 : zt_l1 1 1 0 = 0 := by decide +kernel
  have e2 : zt_l2 1 1 0 0 = 2 := by decide +kernel
  rw [e1, e2]
  refine H _ (fun j hj => ?_)
  by_cases e : j = q
  · rw [e, pk_us, if_pos rfl]
  · rw [pk_un e, if_neg e]
    exact hb j hj
/-- the word's end -/
theorem zt_tyE {post : Int32 → St2 → Prop} {m i len : Nat} {x : Int32} (h1 : a1 0 = nI len) (hl : len < 7) (hi : i < 7) (hE : len ≤ i) (h : post x (P, z, N, O, T, K, F, a1, a2, a3, a4, a5, a6)) : wX_typosOf_11 post 0 (m + 1) x (nI i) P z N O T K F a1 a2 a3 a4 a5 a6 := by
  unfold wX_typosOf_11
  rw [zt_c00, h1]
  exact ⟨zt_i0 (by decide) (by decide), br_t (nI_le hE (by omega)) h⟩
/-- the lesser of two -/
def zt_mi (x y : Int32) : Int32 := if x ≤ y then x else y
theorem zt_ix : ∀ i, i < 6 → ((0 : Int32) * 6) + nI i = nI i := by decide +kernel
/-- one symbol of the word -/
theorem zt_tyS {post : Int32 → St2 → Prop} {m i len c : Nat} {x : Int32} (h1 : a1 0 = nI len) (hl : len < 7) (hi : i < 6) (hE : i < len) (hc : c < 4) (h3 : a3 i = nI c)
    (h : wX_typosOf_11 post 0 m (zt_mi x (zt_re z (zt_an (a5 c) N) (zt_ao z (a5 c) N O) (zt_at z (a5 c) N O T))) (nI (i + 1)) P z (zt_an (a5 c) N) (zt_ao z (a5 c) N O) (zt_at z (a5 c) N O T) K F a1 a2 a3 a4 a5 a6) :
    wX_typosOf_11 post 0 (m + 1) x (nI i) P z N O T K F a1 a2 a3 a4 a5 a6 := by
  unfold wX_typosOf_11
  rw [zt_c00, h1, zt_ix i hi, nI_clamp (show i < 2 ^ 31 by omega), h3]
  refine ⟨zt_i0 (by decide) (by decide), br_f (nI_ge hE (by omega)) ⟨vp_in_nI (by omega) (by decide), zt_adv hc (zt_rea (br_c (fun g => nm_r (nI_1 i) ?_) (fun g => nm_r (nI_1 i) ?_)))⟩⟩
  · unfold zt_mi at h
    rw [if_pos g] at h
    exact h
  · unfold zt_mi at h
    rw [if_neg g] at h
    exact h
/-- the loop over a word of one or two symbols: what the table gives for each -/
theorem zt_tyL {post : Int32 → St2 → Prop} {len s t : Nat} {x r : Int32} (h1 : a1 0 = nI len) (hl : len = 1 ∨ len = 2) (hs : s < 4) (h3 : a3 0 = nI s) (ht : t < 4) (h3' : len = 2 → a3 1 = nI t)
    (r1 : zt_mi x (zt_re z (zt_an (a5 s) N) (zt_ao z (a5 s) N O) (zt_at z (a5 s) N O T)) = r)
    (r2 : zt_mi r (zt_re z (zt_an (a5 t) (zt_an (a5 s) N)) (zt_ao z (a5 t) (zt_an (a5 s) N) (zt_ao z (a5 s) N O)) (zt_at z (a5 t) (zt_an (a5 s) N) (zt_ao z (a5 s) N O) (zt_at z (a5 s) N O T))) = r)
    (H : ∀ N O T : Int32, post r (P, z, N, O, T, K, F, a1, a2, a3, a4, a5, a6)) : ∃ n, wX_typosOf_11 post 0 n x 0 P z N O T K F a1 a2 a3 a4 a5 a6 := by
  rcases hl with e | e
  · refine ⟨0 + 1 + 1, zt_tyS (i := 0) h1 (by omega) (by omega) (by omega) hs h3 (zt_tyE h1 (by omega) (by omega) (by omega) ?_)⟩
    rw [r1]
    exact H _ _ _
  · refine ⟨0 + 1 + 1 + 1, zt_tyS (i := 0) h1 (by omega) (by omega) (by omega) hs h3 (zt_tyS (i := 1) h1 (by omega) (by omega) (by omega) ht (h3' e) (zt_tyE h1 (by omega) (by omega) (by omega) ?_))⟩
    rw [r1, r2]
    exact H _ _ _
/-- the typos of word 0: none over no query -/
theorem zt_ty0 {post : Int32 → St2 → Prop} {len s t : Nat} (h1 : a1 0 = nI len) (hl : len = 1 ∨ len = 2) (hs : s < 4) (h3 : a3 0 = nI s) (ht : t < 4) (h3' : len = 2 → a3 1 = nI t)
    (H : ∀ (N O T : Int32) (b : Nat → Int32), post 0 (P, 0, N, O, T, K, F, a1, a2, a3, a4, b, a6)) : wpX_typosOf post (P, 0, N, O, T, K, F, a1, a2, a3, a4, a5, a6) 0 := by
  unfold wpX_typosOf
  refine zt_set0 (fun b hb => zt_rea ?_)
  refine zt_tyL (r := 0) h1 hl hs h3 ht h3' ?_ ?_ (fun N O T => H N O T b)
  · rw [hb s hs]
    decide +kernel
  · rw [hb s hs, hb t ht]
    decide +kernel
/-- over a query of one symbol: none if the word begins with it, two if not -/
theorem zt_ty1 {post : Int32 → St2 → Prop} {len s t q : Nat} (h1 : a1 0 = nI len) (hl : len = 1 ∨ len = 2) (hs : s < 4) (h3 : a3 0 = nI s) (ht : t < 4) (h3' : len = 2 → a3 1 = nI t) (hq : q < 4) (h4 : a4 0 = nI q)
    (H : ∀ (N O T : Int32) (b : Nat → Int32), post (if s = q then 0 else 2) (P, 1, N, O, T, K, F, a1, a2, a3, a4, b, a6)) : wpX_typosOf post (P, 1, N, O, T, K, F, a1, a2, a3, a4, a5, a6) 0 := by
  unfold wpX_typosOf
  refine zt_set1 hq h4 (fun b hb => zt_rea ?_)
  refine zt_tyL (r := if s = q then 0 else 2) h1 hl hs h3 ht h3' ?_ ?_ (fun N O T => H N O T b)
  · rw [hb s hs]
    by_cases e : s = q
    · rw [if_pos e, if_pos e]
      decide +kernel
    · rw [if_neg e, if_neg e]
      decide +kernel
  · rw [hb s hs, hb t ht]
    by_cases e : s = q
    · rw [if_pos e, if_pos e]
      by_cases e' : t = q
      · rw [if_pos e']
        decide +kernel
      · rw [if_neg e']
        decide +kernel
    · rw [if_neg e, if_neg e]
      by_cases e' : t = q
      · rw [if_pos e']
        decide +kernel
      · rw [if_neg e']
        decide +kernel
end
end
section
section
variable {P z N O T K F C D : Int32} {a1 a2 a3 a4 a5 a6 : Nat → Int32}
theorem zt_add0 (x : Int32) : x + 0 = x := by
  apply Int32.toBitVec_inj.mp
  simp
/-- the words behind those that are there -/
theorem zt_lnT {post : St2 → Prop} : ∀ (m i : Nat), i + m = 10 → (∀ (j : Nat) (ψ : Int32 → Prop), i ≤ j → j < 10 → ψ 0 → wpX_has ψ (P, z, N, O, T, K, F, a1, a2, a3, a4, a5, a6) (nI j)) → post (P, z, N, O, T, K, F, a1, a2, a3, a4, a5, a6) → wX_learn_20 post (m + 1) (nI i) P z N O T K F a1 a2 a3 a4 a5 a6
  | 0, i, e, _, h => pk_le 10 i (fun _ => h) (fun g => absurd g (by omega))
  | m + 1, i, e, hh, h => pk_le 10 i (fun g => absurd g (by omega)) (fun g => hh i _ (Nat.le_refl i) g (br_t rfl (nm_r (nI_1 i) (zt_lnT m (i + 1) (by omega) (fun j ψ h1 => hh j ψ (by omega)) h))))
/-- a state that learn brings to: found set D, word 0's typos C -/
def zt_LR (P z C D : Int32) (a1 a2 a3 a4 : Nat → Int32) (N O T K F : Int32) (a5 a6 : Nat → Int32) : Prop := ∀ post : St2 → Prop, (∀ (N O T K' : Int32) (b a6' : Nat → Int32), ¬ K' = 0 → (P = 1 → a6' 0 = C) → post (P, z, N, O, T, K', D, a1, a2, a3, a4, b, a6')) → wpX_learn post (P, z, N, O, T, K, F, a1, a2, a3, a4, a5, a6)
/-- it has learnt already -/
theorem zt_lnK (hK : ¬ K = 0) (h6 : P = 1 → a6 0 = C) : zt_LR P z C D a1 a2 a3 a4 N O T K D a5 a6 := by
  intro post H
  unfold wpX_learn
  exact br_f hK (H N O T K a5 a6 hK h6)
/-- no word -/
theorem zt_ln0 (hK : K = 0) : zt_LR 0 z C 0 a1 a2 a3 a4 N O T K F a5 a6 := by
  intro post H
  unfold wpX_learn
  exact br_t hK ⟨10 + 1, zt_lnT 10 0 rfl (fun j ψ _ _ h => zt_has0 _ h) (H _ _ _ 1 _ _ (by decide) (fun e => absurd e (by decide)))⟩
theorem zt_o0 : (0 : Int32) ||| 0 = 0 := by decide +kernel
theorem zt_b0 : (0 : Int32).toInt8.toInt32 = 0 := by decide +kernel
theorem zt_b2 : (2 : Int32).toInt8.toInt32 = 2 := by decide +kernel
/-- word 0 alone -/
theorem zt_ln1 (hz : z = 0 ∨ z = 1) (hC : (C = 0 ∧ D = 1) ∨ (C = 2 ∧ D = 0)) (hK : K = 0)
    (HT : ∀ (ψ : Int32 → St2 → Prop) (N O T K F : Int32) (a5 a6 : Nat → Int32), (∀ (N O T : Int32) (b : Nat → Int32), ψ C (1, z, N, O, T, K, F, a1, a2, a3, a4, b, a6)) → wpX_typosOf ψ (1, z, N, O, T, K, F, a1, a2, a3, a4, a5, a6) 0) :
    zt_LR 1 z C D a1 a2 a3 a4 N O T K F a5 a6 := by
  intro post H
  unfold wpX_learn
  refine br_t hK ⟨10 + 1, br_f (by decide) (zt_has1 (br_f (by decide) (HT _ _ _ _ _ _ _ _ (fun N O T b => ⟨zt_i0 (by decide) (by decide), nm_r (e' := upd a6 0 C) ?_ ⟨zt_i0 (by decide) (by decide), zt_forg hz ?_⟩⟩))))⟩
  · rw [zt_c00]
    rcases hC with ⟨rfl, _⟩ | ⟨rfl, _⟩
    · rw [zt_b0]
    · rw [zt_b2]
  · rw [zt_c00, pk_us]
    rcases hC with ⟨rfl, rfl⟩ | ⟨rfl, rfl⟩
    · exact br_f (by decide) (nm_r zt_one (nm_r (nI_1 0) (zt_lnT 9 1 rfl (fun j ψ h1 h2 h => zt_has1n (nI_ne0 h1 (by omega)) h) (H _ _ _ 1 _ _ (by decide) (fun _ => pk_us)))))
    · exact br_t (by decide) (nm_r zt_o0 (nm_r (nI_1 0) (zt_lnT 9 1 rfl (fun j ψ h1 h2 h => zt_has1n (nI_ne0 h1 (by omega)) h) (H _ _ _ 1 _ _ (by decide) (fun _ => pk_us)))))
/-- the words that are not found, in each loop over all words -/
theorem zt_fcT {post : Int32 → St2 → Prop} {x : Int32} : ∀ (m i : Nat), i + m = 10 → (∀ (j : Nat) (ψ : Int32 → Prop), i ≤ j → j < 10 → ψ 0 → wpX_isFound ψ (P, z, N, O, T, K, F, a1, a2, a3, a4, a5, a6) (nI j)) → post x (P, z, N, O, T, K, F, a1, a2, a3, a4, a5, a6) → wX_foundCount_8 post P z N O T K F a1 a2 a3 a4 a5 a6 (m + 1) x (nI i)
  | 0, i, e, _, h => pk_le 10 i (fun _ => h) (fun g => absurd g (by omega))
  | m + 1, i, e, hh, h => pk_le 10 i (fun g => absurd g (by omega)) (fun g => hh i _ (Nat.le_refl i) g (br_t rfl (nm_r (zt_add0 x) (nm_r (nI_1 i) (zt_fcT m (i + 1) (by omega) (fun j ψ h1 => hh j ψ (by omega)) h)))))
theorem zt_atT {post : Int32 → St2 → Prop} {x : Int32} : ∀ (m i : Nat), i + m = 10 → (∀ (j : Nat) (ψ : Int32 → Prop), i ≤ j → j < 10 → ψ 0 → wpX_isFound ψ (P, z, N, O, T, K, F, a1, a2, a3, a4, a5, a6) (nI j)) → post (-1) (P, z, N, O, T, K, F, a1, a2, a3, a4, a5, a6) → wX_at_6 post x (m + 1) (nI i) P z N O T K F a1 a2 a3 a4 a5 a6
  | 0, i, e, _, h => pk_le 10 i (fun _ => h) (fun g => absurd g (by omega))
  | m + 1, i, e, hh, h => pk_le 10 i (fun g => absurd g (by omega)) (fun g => hh i _ (Nat.le_refl i) g (br_t rfl (nm_r (nI_1 i) (zt_atT m (i + 1) (by omega) (fun j ψ h1 => hh j ψ (by omega)) h))))
theorem zt_plT {post : Int32 → St2 → Prop} {x : Int32} : ∀ (m i : Nat), i + m = 10 → 0 < i → (∀ (j : Nat) (ψ : Int32 → Prop), i ≤ j → j < 10 → ψ 0 → wpX_isFound ψ (P, z, N, O, T, K, F, a1, a2, a3, a4, a5, a6) (nI j)) → post x (P, z, N, O, T, K, F, a1, a2, a3, a4, a5, a6) → wX_place_28 post 0 P z N O T K F a1 a2 a3 a4 a5 a6 (m + 1) x (nI i)
  | 0, i, e, _, _, h => pk_le 10 i (fun _ => h) (fun g => absurd g (by omega))
  | m + 1, i, e, h0, hh, h => pk_le 10 i (fun g => absurd g (by omega)) (fun g => br_f (nI_ne0 h0 (by omega)) (hh i _ (Nat.le_refl i) g (br_t rfl (nm_r (zt_add0 x) (nm_r (nI_1 i) (zt_plT m (i + 1) (by omega) (by omega) (fun j ψ h1 => hh j ψ (by omega)) h))))))
theorem zt_coT {post : Int32 → St2 → Prop} {x y : Int32} : ∀ (m i : Nat), i + m = 10 → (∀ (j : Nat) (ψ : Int32 → Prop), i ≤ j → j < 10 → ψ 0 → wpX_isFound ψ (P, z, N, O, T, K, F, a1, a2, a3, a4, a5, a6) (nI j)) → post y (P, z, N, O, T, K, F, a1, a2, a3, a4, a5, a6) → wX_common_10 post P z N O T K F a1 a2 a3 a4 a5 a6 (m + 1) x y (nI i)
  | 0, i, e, _, h => pk_le 10 i (fun _ => h) (fun g => absurd g (by omega))
  | m + 1, i, e, hh, h => pk_le 10 i (fun g => absurd g (by omega)) (fun g => hh i _ (Nat.le_refl i) g (br_t rfl (hh i _ (Nat.le_refl i) g (br_t rfl (nm_r (nI_1 i) (zt_coT m (i + 1) (by omega) (fun j ψ h1 => hh j ψ (by omega)) h))))))
theorem zt_fc {post : Int32 → St2 → Prop} (hD : D = 0 ∨ D = 1) (L : zt_LR P z C D a1 a2 a3 a4 N O T K F a5 a6)
    (H : ∀ (N O T K' : Int32) (b a6' : Nat → Int32), ¬ K' = 0 → (P = 1 → a6' 0 = C) → post D (P, z, N, O, T, K', D, a1, a2, a3, a4, b, a6')) : wpX_foundCount post (P, z, N, O, T, K, F, a1, a2, a3, a4, a5, a6) := by
  unfold wpX_foundCount
  refine L _ (fun N O T K' b a6' hK' h6 => ⟨10 + 1, ?_⟩)
  rcases hD with rfl | rfl
  · exact zt_fcT 10 0 rfl (fun j ψ _ hj h => zt_fnd0 hj h) (H N O T K' b a6' hK' h6)
  · exact br_f (by decide) (zt_fnd1 (br_f (by decide) (nm_r (e' := 1) (by decide) (nm_r (nI_1 0) (zt_fcT 9 1 rfl (fun j ψ h1 hj h => zt_fnd1n hj h1 h) (H N O T K' b a6' hK' h6))))))
theorem zt_place {post : Int32 → St2 → Prop} (hK : ¬ K = 0) (h : post 0 (1, z, N, O, T, K, 1, a1, a2, a3, a4, a5, a6)) : wpX_place post (1, z, N, O, T, K, 1, a1, a2, a3, a4, a5, a6) 0 := by
  unfold wpX_place
  refine zt_has1 (br_f (by decide) ?_)
  unfold wpX_learn
  exact br_f hK (zt_fnd1 (br_f (by decide) ⟨10 + 1, br_f (by decide) (br_t rfl (nm_r (zt_add0 0) (nm_r (nI_1 0) (zt_plT 9 1 rfl (by decide) (fun j ψ h1 hj h => zt_fnd1n hj h1 h) h))))⟩))
theorem zt_at0 {post : Int32 → St2 → Prop} {x : Int32} (L : zt_LR P z C 0 a1 a2 a3 a4 N O T K F a5 a6)
    (H : ∀ (N O T K' : Int32) (b a6' : Nat → Int32), ¬ K' = 0 → (P = 1 → a6' 0 = C) → post (-1) (P, z, N, O, T, K', 0, a1, a2, a3, a4, b, a6')) : wpX_at post (P, z, N, O, T, K, F, a1, a2, a3, a4, a5, a6) x := by
  unfold wpX_at
  exact L _ (fun N O T K' b a6' hK' h6 => ⟨10 + 1, zt_atT 10 0 rfl (fun j ψ _ hj h => zt_fnd0 hj h) (H N O T K' b a6' hK' h6)⟩)
theorem zt_at1 {post : Int32 → St2 → Prop} (L : zt_LR 1 z C 1 a1 a2 a3 a4 N O T K F a5 a6)
    (H : ∀ (N O T K' : Int32) (b a6' : Nat → Int32), ¬ K' = 0 → ((1 : Int32) = 1 → a6' 0 = C) → post 0 (1, z, N, O, T, K', 1, a1, a2, a3, a4, b, a6')) : wpX_at post (1, z, N, O, T, K, F, a1, a2, a3, a4, a5, a6) 0 := by
  unfold wpX_at
  exact L _ (fun N O T K' b a6' hK' h6 => ⟨10 + 1, br_f (by decide) (zt_fnd1 (br_f (by decide) (zt_place hK' (br_t rfl (H N O T K' b a6' hK' h6)))))⟩)
theorem zt_co0 {post : Int32 → St2 → Prop} (L : zt_LR P z C 0 a1 a2 a3 a4 N O T K F a5 a6)
    (H : ∀ (N O T K' : Int32) (b a6' : Nat → Int32), ¬ K' = 0 → (P = 1 → a6' 0 = C) → post 0 (P, z, N, O, T, K', 0, a1, a2, a3, a4, b, a6')) : wpX_common post (P, z, N, O, T, K, F, a1, a2, a3, a4, a5, a6) := by
  unfold wpX_common
  exact L _ (fun N O T K' b a6' hK' h6 => ⟨10 + 1, zt_coT 10 0 rfl (fun j ψ _ hj h => zt_fnd0 hj h) (H N O T K' b a6' hK' h6)⟩)
theorem zt_co1 {post : Int32 → St2 → Prop} (L : zt_LR P z C 1 a1 a2 a3 a4 N O T K F a5 a6)
    (H : ∀ (N O T K' : Int32) (b a6' : Nat → Int32), ¬ K' = 0 → (P = 1 → a6' 0 = C) → post (a1 0) (P, z, N, O, T, K', 1, a1, a2, a3, a4, b, a6')) : wpX_common post (P, z, N, O, T, K, F, a1, a2, a3, a4, a5, a6) := by
  unfold wpX_common
  exact L _ (fun N O T K' b a6' hK' h6 => ⟨10 + 1, br_f (by decide) (zt_fnd1 (br_f (by decide) (br_f (by decide) ⟨zt_i0 (by decide) (by decide), nm_r (e' := a1 0) (by rw [zt_c00]) (nm_r (nI_1 0) (zt_coT 9 1 rfl (fun j ψ h1 hj h => zt_fnd1n hj h1 h) (H N O T K' b a6' hK' h6)))⟩)))⟩)
/-- typos: of word 0 and of another -/
theorem zt_typ1 {post : Int32 → St2 → Prop} (L : zt_LR 1 z C D a1 a2 a3 a4 N O T K F a5 a6)
    (H : ∀ (N O T K' : Int32) (b a6' : Nat → Int32), ¬ K' = 0 → ((1 : Int32) = 1 → a6' 0 = C) → post C (1, z, N, O, T, K', D, a1, a2, a3, a4, b, a6')) : wpX_typos post (1, z, N, O, T, K, F, a1, a2, a3, a4, a5, a6) 0 := by
  unfold wpX_typos
  refine zt_has1 (br_f (by decide) (L _ (fun N O T K' b a6' hK' h6 => ⟨zt_i0 (by decide) (by decide), ?_⟩)))
  rw [zt_c00, h6 rfl]
  exact H N O T K' b a6' hK' h6
theorem zt_typN {post : Int32 → St2 → Prop} {w : Int32} (hw : ¬ w = 0) (h : post (-1) (1, z, N, O, T, K, F, a1, a2, a3, a4, a5, a6)) : wpX_typos post (1, z, N, O, T, K, F, a1, a2, a3, a4, a5, a6) w := by
  unfold wpX_typos
  exact zt_has1n hw (br_t rfl h)
theorem zt_typ0 {post : Int32 → St2 → Prop} {w : Int32} (h : post (-1) (0, z, N, O, T, K, F, a1, a2, a3, a4, a5, a6)) : wpX_typos post (0, z, N, O, T, K, F, a1, a2, a3, a4, a5, a6) w := by
  unfold wpX_typos
  exact zt_has0 w (br_t rfl h)
/-- type: no symbol; a symbol -/
theorem zt_tyN {post : Int32 → St2 → Prop} {q : Int32} (hq : q < 0 ∨ 4 ≤ q) (h : post (-1) (P, z, N, O, T, K, F, a1, a2, a3, a4, a5, a6)) : wpX_type post (P, z, N, O, T, K, F, a1, a2, a3, a4, a5, a6) q := by
  unfold wpX_type
  exact zt_sym (fun _ => br_t rfl h) (fun g g2 => absurd hq (fun o => o.elim g g2))
theorem zt_tyY {post : Int32 → St2 → Prop} {q : Int32} {a4' : Nat → Int32} (h0 : ¬ q < 0) (h4 : ¬ 4 ≤ q) (hD : D = 0 ∨ D = 1) (ha : upd a4 0 q.toInt8.toInt32 = a4') (L : zt_LR P 1 C D a1 a2 a3 a4' N O T 0 F a5 a6)
    (H : ∀ (N O T K' : Int32) (b a6' : Nat → Int32), ¬ K' = 0 → (P = 1 → a6' 0 = C) → post D (P, 1, N, O, T, K', D, a1, a2, a3, a4', b, a6')) : wpX_type post (P, 0, N, O, T, K, F, a1, a2, a3, a4, a5, a6) q := by
  unfold wpX_type
  exact zt_sym (fun g => absurd g (fun o => o.elim h0 h4)) (fun _ _ => br_f (by decide) (br_t (by decide) ⟨zt_i0 (by decide) (by decide), nm_r (e' := a4') (by rw [zt_c00, ha]) (nm_r (e' := 1) (by decide) (zt_fc hD L (fun N O T K' b a6' hK' h6 => H N O T K' b a6' hK' h6)))⟩))
end
end
section
section
variable {P z N O T K F C D : Int32} {a1 a2 a3 a4 a5 a6 : Nat → Int32}
/-- at and common: nothing found -/
theorem zt_g0 {pA : Int32 → St2 → Prop} {pC : Int32 → Int32 → St2 → Prop}
    (hA : ∀ (r P z N O T K F : Int32) (a1 a2 a3 a4 a5 a6 : Nat → Int32), wpX_common (pC r) (P, z, N, O, T, K, F, a1, a2, a3, a4, a5, a6) → pA r (P, z, N, O, T, K, F, a1, a2, a3, a4, a5, a6))
    (L : zt_LR P z C 0 a1 a2 a3 a4 N O T K F a5 a6)
    (H : ∀ (N O T K F : Int32) (a5 a6 : Nat → Int32), pC (-1) 0 (P, z, N, O, T, K, F, a1, a2, a3, a4, a5, a6)) : wpX_at pA (P, z, N, O, T, K, F, a1, a2, a3, a4, a5, a6) 0 :=
  zt_at0 L (fun N O T K' b a6' hK' h6 => hA _ _ _ _ _ _ _ _ _ _ _ _ _ _ (zt_co0 (zt_lnK hK' h6) (fun N O T K' b a6' _ _ => H N O T K' 0 b a6')))
/-- at and common: word 0 found -/
theorem zt_g1 {pA : Int32 → St2 → Prop} {pC : Int32 → Int32 → St2 → Prop}
    (hA : ∀ (r P z N O T K F : Int32) (a1 a2 a3 a4 a5 a6 : Nat → Int32), wpX_common (pC r) (P, z, N, O, T, K, F, a1, a2, a3, a4, a5, a6) → pA r (P, z, N, O, T, K, F, a1, a2, a3, a4, a5, a6))
    (L : zt_LR 1 z C 1 a1 a2 a3 a4 N O T K F a5 a6)
    (H : ∀ (N O T K F : Int32) (a5 a6 : Nat → Int32), pC 0 (a1 0) (1, z, N, O, T, K, F, a1, a2, a3, a4, a5, a6)) : wpX_at pA (1, z, N, O, T, K, F, a1, a2, a3, a4, a5, a6) 0 :=
  zt_at1 L (fun N O T K' b a6' hK' h6 => hA _ _ _ _ _ _ _ _ _ _ _ _ _ _ (zt_co1 (zt_lnK hK' h6) (fun N O T K' b a6' _ _ => H N O T K' 1 b a6')))
/-- the two together, over word 0 alone -/
theorem zt_g2 {pA : Int32 → St2 → Prop} {pC : Int32 → Int32 → St2 → Prop}
    (hA : ∀ (r P z N O T K F : Int32) (a1 a2 a3 a4 a5 a6 : Nat → Int32), wpX_common (pC r) (P, z, N, O, T, K, F, a1, a2, a3, a4, a5, a6) → pA r (P, z, N, O, T, K, F, a1, a2, a3, a4, a5, a6))
    (hD : D = 0 ∨ D = 1) (L : zt_LR 1 z C D a1 a2 a3 a4 N O T K F a5 a6)
    (H : ∀ (N O T K F : Int32) (a5 a6 : Nat → Int32), pC (if D = 0 then -1 else 0) (if D = 0 then 0 else a1 0) (1, z, N, O, T, K, F, a1, a2, a3, a4, a5, a6)) : wpX_at pA (1, z, N, O, T, K, F, a1, a2, a3, a4, a5, a6) 0 := by
  rcases hD with rfl | rfl
  · exact zt_g0 hA L H
  · exact zt_g1 hA L H
/-- typos, at and common over word 0 alone -/
theorem zt_g3 {w : Int32} {pY : Int32 → St2 → Prop} {pA : Int32 → Int32 → St2 → Prop} {pC : Int32 → Int32 → Int32 → St2 → Prop}
    (hY : ∀ (r P z N O T K F : Int32) (a1 a2 a3 a4 a5 a6 : Nat → Int32), wpX_at (pA r) (P, z, N, O, T, K, F, a1, a2, a3, a4, a5, a6) 0 → pY r (P, z, N, O, T, K, F, a1, a2, a3, a4, a5, a6))
    (hA : ∀ (r' r P z N O T K F : Int32) (a1 a2 a3 a4 a5 a6 : Nat → Int32), wpX_common (pC r' r) (P, z, N, O, T, K, F, a1, a2, a3, a4, a5, a6) → pA r' r (P, z, N, O, T, K, F, a1, a2, a3, a4, a5, a6))
    (hD : D = 0 ∨ D = 1) (L : zt_LR 1 z C D a1 a2 a3 a4 N O T K F a5 a6)
    (H : ∀ (N O T K F : Int32) (a5 a6 : Nat → Int32), pC (if w = 0 then C else -1) (if D = 0 then -1 else 0) (if D = 0 then 0 else a1 0) (1, z, N, O, T, K, F, a1, a2, a3, a4, a5, a6)) : wpX_typos pY (1, z, N, O, T, K, F, a1, a2, a3, a4, a5, a6) w := by
  by_cases hw : w = 0
  · rw [if_pos hw] at H
    subst hw
    exact zt_typ1 L (fun N O T K' b a6' hK' h6 => hY _ _ _ _ _ _ _ _ _ _ _ _ _ _ (zt_g2 (hA C) hD (zt_lnK hK' h6) H))
  · rw [if_neg hw] at H
    exact zt_typN hw (hY _ _ _ _ _ _ _ _ _ _ _ _ _ _ (zt_g2 (hA (-1)) hD L H))
/-- what the law may hear of the query: its answer r, word 0's typos C, the found set D -/
def zt_ans (q : Int32) (s : Nat) (r C D : Int32) : Prop := ((q < 0 ∨ 4 ≤ q) ∧ r = -1 ∧ C = 0 ∧ D = 1) ∨ (¬ q < 0 ∧ ¬ 4 ≤ q ∧ q = nI s ∧ r = 1 ∧ C = 0 ∧ D = 1) ∨ (¬ q < 0 ∧ ¬ 4 ≤ q ∧ ¬ q = nI s ∧ r = 0 ∧ C = 2 ∧ D = 0)
/-- type, typos, at and common over word 0 alone -/
theorem zt_g4 {w q : Int32} {len s t : Nat} {pT : Int32 → St2 → Prop} {pY : Int32 → Int32 → St2 → Prop} {pA : Int32 → Int32 → Int32 → St2 → Prop} {pC : Int32 → Int32 → Int32 → Int32 → St2 → Prop}
    (hT : ∀ (r P z N O T K F : Int32) (a1 a2 a3 a4 a5 a6 : Nat → Int32), wpX_typos (pY r) (P, z, N, O, T, K, F, a1, a2, a3, a4, a5, a6) w → pT r (P, z, N, O, T, K, F, a1, a2, a3, a4, a5, a6))
    (hY : ∀ (q' r P z N O T K F : Int32) (a1 a2 a3 a4 a5 a6 : Nat → Int32), wpX_at (pA q' r) (P, z, N, O, T, K, F, a1, a2, a3, a4, a5, a6) 0 → pY q' r (P, z, N, O, T, K, F, a1, a2, a3, a4, a5, a6))
    (hA : ∀ (q' r' r P z N O T K F : Int32) (a1 a2 a3 a4 a5 a6 : Nat → Int32), wpX_common (pC q' r' r) (P, z, N, O, T, K, F, a1, a2, a3, a4, a5, a6) → pA q' r' r (P, z, N, O, T, K, F, a1, a2, a3, a4, a5, a6))
    (h1 : a1 0 = nI len) (hl : len = 1 ∨ len = 2) (hs : s < 4) (h3 : a3 0 = nI s) (ht : t < 4) (h3' : len = 2 → a3 1 = nI t)
    (H : ∀ (r C D z N O T K F : Int32) (a4 a5 a6 : Nat → Int32), zt_ans q s r C D → pC r (if w = 0 then C else -1) (if D = 0 then -1 else 0) (if D = 0 then 0 else nI len) (1, z, N, O, T, K, F, a1, a2, a3, a4, a5, a6)) :
    wpX_type pT (1, 0, N, O, T, 0, F, a1, a2, a3, a4, a5, a6) q := by
  rw [← h1] at H
  by_cases g : q < 0 ∨ 4 ≤ q
  · exact zt_tyN g (hT _ _ _ _ _ _ _ _ _ _ _ _ _ _ (zt_g3 (C := 0) (D := 1) (hY (-1)) (hA (-1)) (Or.inr rfl) (zt_ln1 (Or.inl rfl) (Or.inl ⟨rfl, rfl⟩) rfl (fun ψ N O T K F a5 a6 h => zt_ty0 h1 hl hs h3 ht h3' h)) (fun N O T K F a5 a6 => H (-1) 0 1 0 N O T K F a4 a5 a6 (Or.inl ⟨g, rfl, rfl, rfl⟩))))
  · have g0 : ¬ q < 0 := fun h => g (Or.inl h)
    have g4 : ¬ 4 ≤ q := fun h => g (Or.inr h)
    obtain ⟨j, hj, e⟩ := zt_small (m := 4) (by decide) g0 g4
    have e4 : upd a4 0 q.toInt8.toInt32 0 = nI j := by rw [pk_us, e, zt_byte j hj]
    by_cases hq : s = j
    · refine zt_tyY (C := 0) (D := 1) g0 g4 (Or.inr rfl) rfl (zt_ln1 (Or.inr rfl) (Or.inl ⟨rfl, rfl⟩) rfl (fun ψ N O T K F a5 a6 h => zt_ty1 h1 hl hs h3 ht h3' hj e4 ?_)) (fun N O T K' b a6' hK' h6 => hT _ _ _ _ _ _ _ _ _ _ _ _ _ _ (zt_g3 (C := 0) (D := 1) (hY 1) (hA 1) (Or.inr rfl) (zt_lnK hK' h6) (fun N O T K F a5 a6 => H 1 0 1 1 N O T K F _ a5 a6 (Or.inr (Or.inl ⟨g0, g4, by rw [e, hq], rfl, rfl, rfl⟩)))))
      rw [if_pos hq]
      exact h
    · have hne : ¬ q = nI s := fun h => hq ((nI_eq (by omega) (by omega)).mp (h.symm.trans e))
      refine zt_tyY (C := 2) (D := 0) g0 g4 (Or.inl rfl) rfl (zt_ln1 (Or.inr rfl) (Or.inr ⟨rfl, rfl⟩) rfl (fun ψ N O T K F a5 a6 h => zt_ty1 h1 hl hs h3 ht h3' hj e4 ?_)) (fun N O T K' b a6' hK' h6 => hT _ _ _ _ _ _ _ _ _ _ _ _ _ _ (zt_g3 (C := 2) (D := 0) (hY 0) (hA 0) (Or.inl rfl) (zt_lnK hK' h6) (fun N O T K F a5 a6 => H 0 2 0 1 N O T K F _ a5 a6 (Or.inr (Or.inr ⟨g0, g4, hne, rfl, rfl, rfl⟩)))))
      rw [if_neg hq]
      exact h
/-- type, typos, at and common over no word -/
theorem zt_g5 {w q : Int32} {pT : Int32 → St2 → Prop} {pY : Int32 → Int32 → St2 → Prop} {pA : Int32 → Int32 → Int32 → St2 → Prop} {pC : Int32 → Int32 → Int32 → Int32 → St2 → Prop}
    (hT : ∀ (r P z N O T K F : Int32) (a1 a2 a3 a4 a5 a6 : Nat → Int32), wpX_typos (pY r) (P, z, N, O, T, K, F, a1, a2, a3, a4, a5, a6) w → pT r (P, z, N, O, T, K, F, a1, a2, a3, a4, a5, a6))
    (hY : ∀ (q' r P z N O T K F : Int32) (a1 a2 a3 a4 a5 a6 : Nat → Int32), wpX_at (pA q' r) (P, z, N, O, T, K, F, a1, a2, a3, a4, a5, a6) 0 → pY q' r (P, z, N, O, T, K, F, a1, a2, a3, a4, a5, a6))
    (hA : ∀ (q' r' r P z N O T K F : Int32) (a1 a2 a3 a4 a5 a6 : Nat → Int32), wpX_common (pC q' r' r) (P, z, N, O, T, K, F, a1, a2, a3, a4, a5, a6) → pA q' r' r (P, z, N, O, T, K, F, a1, a2, a3, a4, a5, a6))
    (H : ∀ (r z N O T K F : Int32) (a4 a5 a6 : Nat → Int32), ((q < 0 ∨ 4 ≤ q) ∧ r = -1) ∨ (¬ q < 0 ∧ ¬ 4 ≤ q ∧ r = 0) → pC r (-1) (-1) 0 (0, z, N, O, T, K, F, a1, a2, a3, a4, a5, a6)) :
    wpX_type pT (0, 0, N, O, T, 0, F, a1, a2, a3, a4, a5, a6) q := by
  by_cases g : q < 0 ∨ 4 ≤ q
  · exact zt_tyN g (hT _ _ _ _ _ _ _ _ _ _ _ _ _ _ (zt_typ0 (hY _ _ _ _ _ _ _ _ _ _ _ _ _ _ _ (zt_g0 (C := 0) (hA (-1) (-1)) (zt_ln0 rfl) (fun N O T K F a5 a6 => H _ _ _ _ _ _ _ _ _ _ (Or.inl ⟨g, rfl⟩))))))
  · have g0 : ¬ q < 0 := fun h => g (Or.inl h)
    have g4 : ¬ 4 ≤ q := fun h => g (Or.inr h)
    exact zt_tyY (C := 0) (D := 0) g0 g4 (Or.inl rfl) rfl (zt_ln0 rfl) (fun N O T K' b a6' hK' h6 => hT _ _ _ _ _ _ _ _ _ _ _ _ _ _ (zt_typ0 (hY _ _ _ _ _ _ _ _ _ _ _ _ _ _ _ (zt_g0 (C := 0) (hA 0 (-1)) (zt_lnK hK' h6) (fun N O T K F a5 a6 => H _ _ _ _ _ _ _ _ _ _ (Or.inr ⟨g0, g4, rfl⟩))))))
end
end
section
section
variable {x0 x2 x3 x4 x6 x7 x8 x9 x10 x11 x12 x13 x14 x15 z0 z1 : Int32} {mc ms kc ks : Nat}
theorem zt_34 {p : Int32} : 3 < p ↔ 4 ≤ p := by
  rw [Int32.lt_iff_toInt_lt, Int32.le_iff_toInt_le]
  rw [show (3 : Int32).toInt = 3 from by decide, show (4 : Int32).toInt = 4 from by decide]
  omega
theorem zt_99 {p : Int32} : 9 < p ↔ ¬ p ≤ 9 := by
  rw [Int32.lt_iff_toInt_lt, Int32.le_iff_toInt_le]
  rw [show (9 : Int32).toInt = 9 from by decide]
  omega
/-- the law's last rows: what each answer must be -/
theorem zt_f237 (h : z1 = z0) (h11 : x11 = if x15 = 0 then 0 else if x13 = 0 then 1 else 2) : wL_lawOf_237 (fun r _ => r = 1) mc ms x11 x13 x15 z0 z1 kc ks := by
  unfold wL_lawOf_237
  refine br_t h (br_c (fun g => ?_) (fun g => br_c (fun g2 => ?_) (fun g2 => ?_)))
  · rw [if_pos g] at h11
    exact br_t h11 rfl
  · rw [if_neg g, if_pos g2] at h11
    exact br_t h11 rfl
  · rw [if_neg g, if_neg g2] at h11
    exact br_t h11 rfl
theorem zt_f222 (h : z1 = z0) (h10 : x10 = if x15 = 0 then -1 else 0) (h11 : x11 = if x15 = 0 then 0 else if x13 = 0 then 1 else 2) : wL_lawOf_222 (fun r _ => r = 1) mc ms x10 x11 x13 x15 z0 z1 kc ks := by
  unfold wL_lawOf_222
  refine br_t h (br_c (fun g => zt_f237 ?_ h11) (fun g => zt_f237 ?_ h11))
  · rw [h10, if_pos g]
  · rw [h10, if_neg g]
theorem zt_f194 (h : z1 = z0) (h9 : x9 = if x12 = 0 then -1 else if x2 = 0 then (if x15 = 0 then 2 else 0) else -1) (h10 : x10 = if x15 = 0 then -1 else 0) (h11 : x11 = if x15 = 0 then 0 else if x13 = 0 then 1 else 2) : wL_lawOf_194 (fun r _ => r = 1) mc ms x2 x9 x10 x11 x12 x13 x15 z0 z1 kc ks := by
  unfold wL_lawOf_194
  refine br_t h (br_c (fun g => zt_f222 ?_ h10 h11) (fun g => br_c (fun g2 => br_c (fun g3 => zt_f222 ?_ h10 h11) (fun g3 => zt_f222 ?_ h10 h11)) (fun g2 => zt_f222 ?_ h10 h11)))
  · rw [h9, if_pos g]
  · rw [h9, if_neg g, if_pos g2, if_pos g3]
  · rw [h9, if_neg g, if_pos g2, if_neg g3]
  · rw [h9, if_neg g, if_neg g2]
theorem zt_f149 (h6 : x6 = if x12 = 0 then -1 else 0) (h7 : x7 = x13) (h8 : x8 = if x14 = 0 then -1 else if x15 = 0 then 0 else 1) (h9 : x9 = if x12 = 0 then -1 else if x2 = 0 then (if x15 = 0 then 2 else 0) else -1) (h10 : x10 = if x15 = 0 then -1 else 0) (h11 : x11 = if x15 = 0 then 0 else if x13 = 0 then 1 else 2) : wL_lawOf_149 (fun r _ => r = 1) mc ms x2 x6 x7 x8 x9 x10 x11 x12 x13 x14 x15 kc ks := by
  have k : ∀ z0, x6 = z0 → wL_lawOf_163 (fun r _ => r = 1) mc ms x2 x7 x8 x9 x10 x11 x12 x13 x14 x15 z0 x6 kc ks := by
    intro z0 h
    unfold wL_lawOf_163
    refine br_t h (br_t h7 (br_c (fun g => zt_f194 ?_ h9 h10 h11) (fun g => br_c (fun g2 => zt_f194 ?_ h9 h10 h11) (fun g2 => zt_f194 ?_ h9 h10 h11))))
    · rw [h8, if_pos g]
    · rw [h8, if_neg g, if_pos g2]
    · rw [h8, if_neg g, if_neg g2]
  unfold wL_lawOf_149
  refine br_c (fun g => k _ ?_) (fun g => k _ ?_)
  · rw [h6, if_pos g]
  · rw [h6, if_neg g]
/-- no word: what the law asks then -/
theorem zt_bad {r : Int32} (hr : ((x4 < 0 ∨ 4 ≤ x4) ∧ r = -1) ∨ (¬ x4 < 0 ∧ ¬ 4 ≤ x4 ∧ r = 0)) : wL_lawOf_82 (fun r _ => r = 1) mc ms x0 x2 x3 x4 (-1) 0 r (-1) (-1) 0 kc ks := by
  have k : ∀ x14, r = (if x14 = 0 then -1 else 0) → wL_lawOf_126 (fun r _ => r = 1) mc ms x0 x2 x4 (-1) 0 r (-1) (-1) 0 0 0 x14 kc ks := by
    intro x14 h
    unfold wL_lawOf_126
    refine br_t rfl (zt_f149 (x15 := 0) rfl rfl ?_ rfl rfl rfl)
    rw [h]
    rfl
  unfold wL_lawOf_82 wL_lawOf_83
  refine br_t rfl ?_
  unfold wL_lawOf_107 wL_lawOf_108
  rcases hr with ⟨g, e⟩ | ⟨g, g4, e⟩
  · refine br_c (fun _ => k 0 e) (fun g0 => br_c (fun _ => k 0 e) (fun g3 => ?_))
    exact absurd g (fun o => o.elim g0 (fun u => g3 (zt_34.mpr u)))
  · exact br_f g (br_f (fun u => g4 (zt_34.mp u)) (k 1 e))
/-- word 0: what the law asks then, behind its own x13 -/
theorem zt_gd {s len : Nat} {r C D : Int32} (h0 : x0 = nI s) (ha : zt_ans x4 s r C D) (hl : nI len = if x13 = 0 then 1 else 2) :
    wL_lawOf_108 (fun r _ => r = 1) mc ms x0 x2 x4 0 x13 r (if x2 = 0 then C else -1) (if D = 0 then -1 else 0) (if D = 0 then 0 else nI len) 1 x13 kc ks := by
  subst h0
  have n10 : ¬ (1 : Int32) = 0 := by decide
  unfold wL_lawOf_108
  rcases ha with ⟨g, rfl, rfl, rfl⟩ | ⟨g, g4, e, rfl, rfl, rfl⟩ | ⟨g, g4, e, rfl, rfl, rfl⟩
  · have k : wL_lawOf_126 (fun r _ => r = 1) mc ms (nI s) x2 x4 0 x13 (-1) (if x2 = 0 then 0 else -1) (if (1 : Int32) = 0 then -1 else 0) (if (1 : Int32) = 0 then 0 else nI len) 1 x13 0 kc ks := by
      unfold wL_lawOf_126
      refine br_f n10 (br_t rfl (zt_f149 (x15 := 1) rfl rfl rfl ?_ rfl ?_))
      · rfl
      · rw [if_neg n10, if_neg n10, hl]
    refine br_c (fun _ => k) (fun g0 => br_c (fun _ => k) (fun g3 => ?_))
    exact absurd g (fun o => o.elim g0 (fun u => g3 (zt_34.mpr u)))
  · refine br_f g (br_f (fun u => g4 (zt_34.mp u)) ?_)
    unfold wL_lawOf_126
    refine br_f n10 (br_f n10 (br_t e (zt_f149 (x15 := 1) rfl rfl rfl ?_ rfl ?_)))
    · rfl
    · rw [if_neg n10, if_neg n10, hl]
  · refine br_f g (br_f (fun u => g4 (zt_34.mp u)) ?_)
    unfold wL_lawOf_126
    refine br_f n10 (br_f n10 (br_f e (zt_f149 (x15 := 0) rfl rfl rfl ?_ rfl ?_)))
    · rfl
    · rfl
theorem zt_lawOf (p0 p1 p2 p3 p4 : Int32) : wpL_lawOf (fun r _ => r = 1) 36 576 () p0 p1 p2 p3 p4 := by
  unfold wpL_lawOf
  refine ⟨by decide, by decide, 6, 100, by decide, by decide, ?_⟩
  unfold wpX_init
  refine ⟨by decide, by decide, by decide, by decide, by decide, by decide, by decide, by decide, by decide, by decide, by decide, by decide, ?_⟩
  refine zt_begin (fun hb => ?_) (fun g0 g4 w0 w9 => ?_)
  · refine zt_ext0 (zt_g5 (fun _ _ _ _ _ _ _ _ _ _ _ _ _ _ h => h) (fun _ _ _ _ _ _ _ _ _ _ _ _ _ _ _ h => h) (fun _ _ _ _ _ _ _ _ _ _ _ _ _ _ _ _ h => h) (fun r z N O T K F a4 a5 a6 hr => ?_))
    refine br_c (fun _ => zt_bad hr) (fun g => br_c (fun _ => zt_bad hr) (fun g3 => br_c (fun _ => zt_bad hr) (fun g' => br_c (fun _ => zt_bad hr) (fun g9 => ?_))))
    rcases hb with u | u | u | u
    · exact absurd u g
    · exact absurd (zt_34.mpr u) g3
    · exact absurd u g'
    · exact absurd (zt_99.mpr u) g9
  · obtain ⟨s, hs, e⟩ := zt_small (m := 4) (by decide) g0 g4
    have es : p0.toInt8.toInt32 = nI s := by rw [e, zt_byte s hs]
    refine zt_ext1 pk_us (fun hn => ?_) (fun hw t0 t4 => ?_)
    · refine zt_g4 (len := 1) (s := s) (t := 0) (fun _ _ _ _ _ _ _ _ _ _ _ _ _ _ h => h) (fun _ _ _ _ _ _ _ _ _ _ _ _ _ _ _ h => h) (fun _ _ _ _ _ _ _ _ _ _ _ _ _ _ _ _ h => h) pk_us (Or.inl rfl) hs (pk_us.trans es) (by decide) (fun u => absurd u (by decide)) (fun r C D z N O T K F a4 a5 a6 ha => ?_)
      refine br_f g0 (br_f (fun u => g4 (zt_34.mp u)) (br_f w0 (br_f (fun u => zt_99.mp u w9) ?_)))
      have k : wL_lawOf_107 (fun r _ => r = 1) 36 576 p0 p2 p4 0 0 r (if p2 = 0 then C else -1) (if D = 0 then -1 else 0) (if D = 0 then 0 else nI 1) 1 (1 + 6) (13 + 100) := zt_gd e ha rfl
      unfold wL_lawOf_83
      refine br_f (by decide) (br_c (fun u => br_c (fun _ => k) (fun v => br_c (fun _ => k) (fun v' => ?_))) (fun _ => k))
      exact absurd ⟨u, v, fun y => v' (zt_34.mpr y)⟩ hn
    · obtain ⟨t, ht, e'⟩ := zt_small (m := 4) (by decide) t0 t4
      have et : p3.toInt8.toInt32 = nI t := by rw [e', zt_byte t ht]
      refine zt_g4 (len := 2) (s := s) (t := t) (fun _ _ _ _ _ _ _ _ _ _ _ _ _ _ h => h) (fun _ _ _ _ _ _ _ _ _ _ _ _ _ _ _ h => h) (fun _ _ _ _ _ _ _ _ _ _ _ _ _ _ _ _ h => h) pk_us (Or.inr rfl) hs ((pk_un (by decide)).trans (pk_us.trans es)) ht (fun _ => pk_us.trans et) (fun r C D z N O T K F a4 a5 a6 ha => ?_)
      refine br_f g0 (br_f (fun u => g4 (zt_34.mp u)) (br_f w0 (br_f (fun u => zt_99.mp u w9) ?_)))
      unfold wL_lawOf_83
      exact br_f (by decide) (br_t hw (br_f t0 (br_f (fun u => t4 (zt_34.mp u)) (zt_gd e ha rfl))))
theorem i_vc (xs : Nat → Int32) (L : Nat) (hL : L ≤ 5) : wpL_law (fun r => r = 1) L xs := by
  unfold wpL_law
  exact zt_cell 0 rfl (by decide) hL (fun p0 => zt_cell 1 rfl (by decide) hL (fun p1 => zt_cell 2 rfl (by decide) hL (fun p2 => zt_cell 3 rfl (by decide) hL (fun p3 => zt_cell 4 rfl (by decide) hL (fun p4 => ⟨36, 576, by decide, by decide, zt_lawOf p0 p1 p2 p3 p4⟩)))))
end
end
