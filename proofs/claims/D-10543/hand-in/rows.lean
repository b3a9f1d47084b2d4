section
section
variable {T rd mu pl dn hg inp tp ch co cn x : Int32} {b1 b2 b3 b4 b5 b6 b7 b8 b9 b10 b11 b12 b13 : Nat → Int32}
/-- an input: at least -8, at most 7 -/
abbrev mr_in (x : Int32) : Prop := ¬ x < (-8) ∧ x ≤ 7
theorem mr_c0 : (0 : Int32).toNatClampNeg = 0 := by decide
theorem mr_fill {f s : Nat → Int32} {i k : Nat} {v : Int32} (hk : k = i) (h : ∀ j, j < i → s j = f j) (hx : v = f i) : ∀ j, j < i + 1 → upd s k v j = f j := by
  intro j hj
  rw [hk]
  by_cases e : j = i
  · rw [e, pk_us, hx]
  · rw [pk_un e]
    exact h j (by omega)
theorem mr_put {post : St2 → Prop} (h1 : ¬ x < (-1000)) (h2 : x ≤ 1000) (H : post (1, T, rd, mu, pl, dn, 1, inp, tp, ch, co, cn, b1, b2, b3, b4, b5, b6, b7, b8, upd b9 0 x, b10, b11, b12, b13)) : wpX_put post (1, T, rd, mu, pl, dn, 0, inp, tp, ch, co, cn, b1, b2, b3, b4, b5, b6, b7, b8, b9, b10, b11, b12, b13) x :=
  br_f (by decide) (br_f h1 (br_t h2 ⟨(vp_in_iff.mpr (by decide)), nm_r (e' := upd b9 0 x) (by rw [mr_c0]) (nm_r (e' := 1) (by decide) H)⟩))
theorem mr_exIn {post : St2 → Prop} {q y : Int32} (hq : q = 1) (h1 : ¬ x < (-1000)) (h2 : x ≤ 1000) (H : post (1, T, rd, mu, 1, 1, 1, x, tp, ch, co, cn, b1, b2, b3, b4, b5, b6, b7, b8, upd b9 0 x, b10, b11, b12, b13)) : wpX_execute post (1, T, rd, mu, 0, 0, 0, x, tp, ch, co, cn, b1, b2, b3, b4, b5, b6, b7, b8, b9, b10, b11, b12, b13) q y := by
  subst hq
  refine nm_r (e' := 1) (by decide) (br_f (by decide) (br_t (by decide) (nm_r (e' := 1) (by decide) (br_f (by decide) (br_t (by decide) ?_)))))
  exact mr_put h1 h2 H
theorem mr_note {post : St2 → Prop} (H : post (1, T, rd, mu, 0, 0, 0, inp, tp, ch, co, cn, b1, b2, b3, b4, b5, b6, b7, b8, b9, upd b10 0 1, upd b11 0 0, upd b12 0 0, b13)) : wpX_note post (1, T, rd, mu, 0, 0, 0, inp, tp, ch, co, cn, b1, b2, b3, b4, b5, b6, b7, b8, b9, b10, b11, b12, b13) :=
  ⟨(vp_in_iff.mpr (by decide)), nm_r (e' := upd b10 0 1) (by rw [mr_c0]) ⟨(vp_in_iff.mpr (by decide)), nm_r (e' := upd b11 0 0) (by rw [mr_c0]) ⟨(vp_in_iff.mpr (by decide)), nm_r (e' := upd b12 0 0) (by rw [mr_c0]) ⟨0 + 1, br_t (by decide) H⟩⟩⟩⟩
theorem mr_out {post : Int32 → St2 → Prop} {w : Int32} {n : Nat} (H : ∀ r, r = x → post r (1, T, rd, mu, 1, 1, 1, inp, 0, ch, co, cn, b1, b2, b3, b4, b5, b6, b7, b8, upd b9 0 x, b10, b11, b12, b13)) : wX_finish_7 post w (n + 1) 1 1 T rd mu 1 1 1 inp 0 ch co cn b1 b2 b3 b4 b5 b6 b7 b8 (upd b9 0 x) b10 b11 b12 b13 := by
  refine br_f (by decide) (br_f (by decide) (br_t (by decide) ?_))
  refine br_t rfl (br_t (by decide) (br_f (by decide) ⟨(vp_in_iff.mpr (by decide)), H _ ?_⟩))
  exact pk_us
theorem mr_fin {post : Int32 → St2 → Prop} (g1 : b1 0 = 1) (g10 : b10 0 = 0) (h1 : ¬ x < (-1000)) (h2 : x ≤ 1000)
    (H : ∀ r, r = x → post r (1, T, rd, mu, 1, 1, 1, x, 0, -1, co, cn, b1, b2, b3, b4, b5, b6, b7, b8, upd b9 0 x, upd b10 0 1, upd b11 0 0, upd b12 0 0, b13)) :
    wpX_finish post (1, T, rd, mu, 0, 0, 0, x, tp, -1, co, cn, b1, b2, b3, b4, b5, b6, b7, b8, b9, b10, b11, b12, b13) 1 := by
  refine ⟨0 + 1 + 1, br_f (by decide) (br_f (by decide) (br_f (by decide) (br_t rfl (br_f (by decide) ⟨(vp_in_iff.mpr (by decide)), br_t ?_ (mr_note ?_)⟩))))⟩
  · rw [mr_c0]
    exact g10
  · refine br_f (by decide) ⟨(vp_in_iff.mpr (by decide)), (vp_in_iff.mpr (by decide)), mr_exIn ?_ h1 h2 (nm_r (e' := 1) (by decide) (mr_out H))⟩
    rw [mr_c0]
    exact g1
theorem mr_rw {post : Int32 → St2 → Prop} (g1 : b1 0 = 1) (h1 : ¬ x < (-1000)) (h2 : x ≤ 1000)
    (H : ∀ (r : Int32) (c9 c10 c11 c12 : Nat → Int32), r = x → c10 0 = 1 → c11 0 = 0 → c12 0 = 0 → post r (1, T, rd, mu, 1, 1, 1, x, 0, -1, co, cn, b1, b2, b3, b4, b5, b6, b7, b8, c9, c10, c11, c12, b13)) :
    wpX_runWhole post (1, T, rd, mu, pl, dn, hg, inp, tp, ch, co, cn, b1, b2, b3, b4, b5, b6, b7, b8, b9, b10, b11, b12, b13) x :=
  pk_loop (fun n i s => wX_runWhole_2 post x 1 T rd mu pl dn hg inp tp ch co cn n (nI i) b1 b2 b3 b4 b5 b6 b7 b8 b9 s b11 b12 b13) (fun i s => ∀ j, j < i → s j = 0) 10 0 b10 (by omega) (fun j hj => absurd hj (by omega))
    (fun n s h => pk_le 10 10 (fun _ => mr_fin g1 (h 0 (by omega)) h1 h2 (fun r hr => H r _ _ _ _ hr pk_us pk_us pk_us)) (fun z => absurd z (by omega)))
    (fun n i s hi h hw => pk_le 10 i (fun z => absurd z (by omega)) (fun _ => ⟨pk_in i 10 (by omega), nm_e (nm_r (nI_1 i) (hw _ (mr_fill (f := fun _ => 0) (nI_clamp (by omega)) h rfl)))⟩))
theorem mr_put_2 {post : St2 → Prop} (h1 : ¬ x < (-1000)) (h2 : x ≤ 1000) (H : post (1, T, rd, mu, pl, dn, 1, inp, tp, ch, co, cn, b1, b2, b3, b4, b5, b6, b7, b8, upd b9 0 x, b10, b11, b12, b13)) : wpX_put_2 post (1, T, rd, mu, pl, dn, 0, inp, tp, ch, co, cn, b1, b2, b3, b4, b5, b6, b7, b8, b9, b10, b11, b12, b13) x :=
  br_f (by decide) (br_f h1 (br_t h2 ⟨(vp_in_iff.mpr (by decide)), nm_r (e' := upd b9 0 x) (by rw [mr_c0]) (nm_r (e' := 1) (by decide) H)⟩))
theorem mr_exIn_2 {post : St2 → Prop} {q y : Int32} (hq : q = 1) (h1 : ¬ x < (-1000)) (h2 : x ≤ 1000) (H : post (1, T, rd, mu, 1, 1, 1, x, tp, ch, co, cn, b1, b2, b3, b4, b5, b6, b7, b8, upd b9 0 x, b10, b11, b12, b13)) : wpX_execute_2 post (1, T, rd, mu, 0, 0, 0, x, tp, ch, co, cn, b1, b2, b3, b4, b5, b6, b7, b8, b9, b10, b11, b12, b13) q y := by
  subst hq
  refine nm_r (e' := 1) (by decide) (br_f (by decide) (br_t (by decide) (nm_r (e' := 1) (by decide) (br_f (by decide) (br_t (by decide) ?_)))))
  exact mr_put_2 h1 h2 H
theorem mr_exNum_2 {post : St2 → Prop} (H : post (1, T, rd, mu, 1, 1, 1, inp, tp, ch, co, cn, b1, b2, b3, b4, b5, b6, b7, b8, upd b9 0 0, b10, b11, b12, b13)) : wpX_execute_2 post (1, T, rd, mu, 0, 0, 0, inp, tp, ch, co, cn, b1, b2, b3, b4, b5, b6, b7, b8, b9, b10, b11, b12, b13) 0 0 := by
  refine nm_r (e' := 1) (by decide) (br_f (by decide) (br_t (by decide) (nm_r (e' := 1) (by decide) (br_t rfl ?_))))
  exact mr_put_2 (by decide) (by decide) H
theorem mr_note_2 {post : St2 → Prop} (H : post (1, T, rd, mu, 0, 0, 0, inp, tp, ch, co, cn, b1, b2, b3, b4, b5, b6, b7, b8, b9, upd b10 0 1, upd b11 0 0, upd b12 0 0, b13)) : wpX_note_2 post (1, T, rd, mu, 0, 0, 0, inp, tp, ch, co, cn, b1, b2, b3, b4, b5, b6, b7, b8, b9, b10, b11, b12, b13) :=
  ⟨(vp_in_iff.mpr (by decide)), nm_r (e' := upd b10 0 1) (by rw [mr_c0]) ⟨(vp_in_iff.mpr (by decide)), nm_r (e' := upd b11 0 0) (by rw [mr_c0]) ⟨(vp_in_iff.mpr (by decide)), nm_r (e' := upd b12 0 0) (by rw [mr_c0]) ⟨0 + 1, br_t (by decide) H⟩⟩⟩⟩
theorem mr_out_2 {post : Int32 → St2 → Prop} {w : Int32} {n : Nat} (H : ∀ r, r = x → post r (1, T, rd, mu, 1, 1, 1, inp, 0, ch, co, cn, b1, b2, b3, b4, b5, b6, b7, b8, upd b9 0 x, b10, b11, b12, b13)) : wX_finish_2_7 post w (n + 1) 1 1 T rd mu 1 1 1 inp 0 ch co cn b1 b2 b3 b4 b5 b6 b7 b8 (upd b9 0 x) b10 b11 b12 b13 := by
  refine br_f (by decide) (br_f (by decide) (br_t (by decide) ?_))
  refine br_t rfl (br_t (by decide) (br_f (by decide) ⟨(vp_in_iff.mpr (by decide)), H _ ?_⟩))
  exact pk_us
theorem mr_fin_2 {post : Int32 → St2 → Prop} (g1 : b1 0 = 1) (g10 : b10 0 = 0) (h1 : ¬ x < (-1000)) (h2 : x ≤ 1000)
    (H : ∀ r, r = x → post r (1, T, rd, mu, 1, 1, 1, x, 0, -1, co, cn, b1, b2, b3, b4, b5, b6, b7, b8, upd b9 0 x, upd b10 0 1, upd b11 0 0, upd b12 0 0, b13)) :
    wpX_finish_2 post (1, T, rd, mu, 0, 0, 0, x, tp, -1, co, cn, b1, b2, b3, b4, b5, b6, b7, b8, b9, b10, b11, b12, b13) 1 := by
  refine ⟨0 + 1 + 1, br_f (by decide) (br_f (by decide) (br_f (by decide) (br_t rfl (br_f (by decide) ⟨(vp_in_iff.mpr (by decide)), br_t ?_ (mr_note_2 ?_)⟩))))⟩
  · rw [mr_c0]
    exact g10
  · refine br_f (by decide) ⟨(vp_in_iff.mpr (by decide)), (vp_in_iff.mpr (by decide)), mr_exIn_2 ?_ h1 h2 (nm_r (e' := 1) (by decide) (mr_out_2 H))⟩
    rw [mr_c0]
    exact g1
theorem mr_rw_2 {post : Int32 → St2 → Prop} (g1 : b1 0 = 1) (h1 : ¬ x < (-1000)) (h2 : x ≤ 1000)
    (H : ∀ (r : Int32) (c9 c10 c11 c12 : Nat → Int32), r = x → c10 0 = 1 → c11 0 = 0 → c12 0 = 0 → post r (1, T, rd, mu, 1, 1, 1, x, 0, -1, co, cn, b1, b2, b3, b4, b5, b6, b7, b8, c9, c10, c11, c12, b13)) :
    wpX_runWhole_2 post (1, T, rd, mu, pl, dn, hg, inp, tp, ch, co, cn, b1, b2, b3, b4, b5, b6, b7, b8, b9, b10, b11, b12, b13) x :=
  pk_loop (fun n i s => wX_runWhole_2_2 post x 1 T rd mu pl dn hg inp tp ch co cn n (nI i) b1 b2 b3 b4 b5 b6 b7 b8 b9 s b11 b12 b13) (fun i s => ∀ j, j < i → s j = 0) 10 0 b10 (by omega) (fun j hj => absurd hj (by omega))
    (fun n s h => pk_le 10 10 (fun _ => mr_fin_2 g1 (h 0 (by omega)) h1 h2 (fun r hr => H r _ _ _ _ hr pk_us pk_us pk_us)) (fun z => absurd z (by omega)))
    (fun n i s hi h hw => pk_le 10 i (fun z => absurd z (by omega)) (fun _ => ⟨pk_in i 10 (by omega), nm_e (nm_r (nI_1 i) (hw _ (mr_fill (f := fun _ => 0) (nI_clamp (by omega)) h rfl)))⟩))
theorem mr_finM {post : Int32 → St2 → Prop} (H : ∀ r, r = 0 → post r (1, T, rd, mu, 1, 1, 1, inp, 0, 0, 0, 0, b1, b2, b3, b4, b5, b6, b7, b8, upd b9 0 0, b10, b11, b12, b13)) :
    wpX_finish_2 post (1, T, rd, mu, 0, 0, 0, inp, tp, 0, 0, 0, b1, b2, b3, b4, b5, b6, b7, b8, b9, b10, b11, b12, b13) 0 := by
  refine ⟨0 + 1 + 1, br_f (by decide) (br_f (by decide) (br_f (by decide) (br_t rfl (br_t rfl ?_))))⟩
  exact br_t rfl (mr_exNum_2 (nm_r (e' := 1) (by decide) (mr_out_2 H)))
theorem mr_rf {post : Int32 → St2 → Prop} {w : Int32} (g4 : b4 0 = 0) (g5 : b5 0 = 0) (g6 : b6 0 = 0) (g10 : b10 0 = 1) (g11 : b11 0 = 0) (g12 : b12 0 = 0)
    (H : ∀ (r : Int32) (c9 : Nat → Int32), r = 0 → post r (1, T, rd, mu, 1, 1, 1, inp, 0, 0, 0, 0, b1, b2, b3, b4, b5, b6, b7, b8, c9, b10, b11, b12, b13)) :
    wpX_runFrom post (1, T, rd, mu, pl, dn, hg, inp, tp, ch, co, cn, b1, b2, b3, b4, b5, b6, b7, b8, b9, b10, b11, b12, b13) 0 w := by
  refine ⟨(vp_in_iff.mpr (by decide)), nm_r (e' := 0) (by rw [mr_c0]; exact g4) ⟨(vp_in_iff.mpr (by decide)), br_f (by rw [mr_c0, g10]; decide) ⟨(vp_in_iff.mpr (by decide)), nm_r (e' := 0) (by rw [mr_c0]; exact g11) ⟨(vp_in_iff.mpr (by decide)), nm_r (e' := 0) (by rw [mr_c0]; exact g12) ⟨0 + 1, br_t (by decide) ?_⟩⟩⟩⟩⟩
  refine ⟨(vp_in_iff.mpr (by decide)), nm_r (e' := 0) (by rw [mr_c0]; exact g5) ⟨(vp_in_iff.mpr (by decide)), nm_r (e' := 0) (by rw [mr_c0]; exact g6) ?_⟩⟩
  exact mr_finM (fun r hr => H r _ hr)
end
end
section
section
variable {T rd mu pl dn hg inp tp ch co cn x : Int32} {b1 b2 b3 b4 b5 b6 b7 b8 b9 b10 b11 b12 b13 : Nat → Int32}
/-- which inputs tell the mutant, k inputs tried -/
def mr_told : Nat → Int32
  | 0 => 0
  | k + 1 => if (0 : Int32) = nI k - 8 then mr_told k else mr_told k ||| ((1 : Int32) <<< (nI k &&& 31))
theorem mr_told16 : mr_told 16 = 65279 := by decide +kernel
theorem mr_lo : ∀ k, k < 16 → ¬ nI k - 8 < (-1000) := by decide +kernel
theorem mr_hi : ∀ k, k < 16 → nI k - 8 ≤ 1000 := by decide +kernel
/-- what prepare leaves -/
def mr_rd (rd mu : Int32) (b4 b5 b6 b7 b8 : Nat → Int32) : Prop := rd = 1 ∧ mu = 1 ∧ b4 0 = 0 ∧ b5 0 = 0 ∧ b6 0 = 0 ∧ b7 0 = 65279 ∧ ∀ j, j < 16 → b8 j = nI j - 8
/-- an object of the one-instruction program, its trials T in A; prepared or not -/
def mr_ok (T : Int32) (A : Nat → Int32) (u : St2) : Prop := match u with
  | (sz, tr, rd, mu, pl, dn, hg, inp, tp, ch, co, cn, b1, b2, b3, b4, b5, b6, b7, b8, b9, b10, b11, b12, b13) => sz = 1 ∧ tr = T ∧ b3 = A ∧ b1 0 = 1 ∧ (rd = 0 ∨ mr_rd rd mu b4 b5 b6 b7 b8)
/-- the same, prepared -/
def mr_re (T : Int32) (A : Nat → Int32) (u : St2) : Prop := match u with
  | (sz, tr, rd, mu, pl, dn, hg, inp, tp, ch, co, cn, b1, b2, b3, b4, b5, b6, b7, b8, b9, b10, b11, b12, b13) => sz = 1 ∧ tr = T ∧ b3 = A ∧ b1 0 = 1 ∧ mr_rd rd mu b4 b5 b6 b7 b8
theorem mr_reok {A : Nat → Int32} {u : St2} (h : mr_re T A u) : mr_ok T A u := by
  obtain ⟨sz, tr, rd, mu, pl, dn, hg, inp, tp, ch, co, cn, b1, b2, b3, b4, b5, b6, b7, b8, b9, b10, b11, b12, b13⟩ := u
  exact ⟨h.1, h.2.1, h.2.2.1, h.2.2.2.1, Or.inr h.2.2.2.2⟩
theorem mr_add {post : St2 → Prop} (H : post (1, T, rd, 1, pl, dn, hg, inp, tp, ch, co, cn, b1, b2, b3, upd b4 0 0, upd b5 0 0, upd b6 0 0, b7, b8, b9, b10, b11, b12, b13)) : wpX_add post (1, T, rd, 0, pl, dn, hg, inp, tp, ch, co, cn, b1, b2, b3, b4, b5, b6, b7, b8, b9, b10, b11, b12, b13) 0 0 0 :=
  ⟨(vp_in_iff.mpr (by decide)), nm_r (e' := upd b4 0 0) (by rw [mr_c0]) ⟨(vp_in_iff.mpr (by decide)), nm_r (e' := upd b5 0 0) (by rw [mr_c0]) ⟨(vp_in_iff.mpr (by decide)), nm_r (e' := upd b6 0 0) (by rw [mr_c0]) (nm_r (e' := 1) (by decide) H)⟩⟩⟩
theorem mr_addAt {post : St2 → Prop} (g1 : b1 0 = 1) (H : post (1, T, rd, 1, pl, dn, hg, inp, tp, ch, co, cn, b1, b2, b3, upd b4 0 0, upd b5 0 0, upd b6 0 0, b7, b8, b9, b10, b11, b12, b13)) : wpX_addAt post (1, T, rd, 0, pl, dn, hg, inp, tp, ch, co, cn, b1, b2, b3, b4, b5, b6, b7, b8, b9, b10, b11, b12, b13) 0 :=
  ⟨(vp_in_iff.mpr (by decide)), nm_r (e' := 1) (by rw [mr_c0]; exact g1) ⟨(vp_in_iff.mpr (by decide)), nm_e (br_f (by decide) (br_t rfl (mr_add H)))⟩⟩
theorem mr_p81 {post : St2 → Prop} {J : Int32 → Int32 → Int32 → Int32 → Int32 → Int32 → Int32 → Int32 → Int32 → Int32 → Int32 → Int32 → Int32 → (Nat → Int32) → (Nat → Int32) → (Nat → Int32) → (Nat → Int32) → (Nat → Int32) → (Nat → Int32) → (Nat → Int32) → (Nat → Int32) → (Nat → Int32) → (Nat → Int32) → (Nat → Int32) → (Nat → Int32) → (Nat → Int32) → Prop} {k n : Nat} (g1 : b1 0 = 1)
    (H : J (nI (k + 1)) 1 T rd mu pl dn hg inp tp ch co cn b1 b2 b3 b4 b5 b6 b7 b8 b9 b10 b11 b12 b13) : mu = 1 → wX_prepare_81 post J (nI k) (n + 1) 1 1 T rd mu pl dn hg inp tp ch co cn b1 b2 b3 b4 b5 b6 b7 b8 b9 b10 b11 b12 b13 := by
  intro e
  subst e
  exact br_t (by decide) (nm_r (nI_1 k) H)
theorem mr_p59 {post : St2 → Prop} {b3 : Nat → Int32} (g1 : b1 0 = 1) (g4 : b4 0 = 0) (g5 : b5 0 = 0) (g6 : b6 0 = 0) (H : ∀ u, mr_re T b3 u → post u) :
    ∀ (n k : Nat), k + n = 16 → ∀ (pl dn hg inp tp ch co cn : Int32) (b7 b8 b9 b10 b11 b12 b13 : Nat → Int32), b7 0 = mr_told k → (∀ j, j < k → b8 j = nI j - 8) →
    wX_prepare_59 post (n + 1) (nI k) 1 T 0 1 pl dn hg inp tp ch co cn b1 b2 b3 b4 b5 b6 b7 b8 b9 b10 b11 b12 b13 := by
  intro n
  induction n with
  | zero =>
    intro k hk pl dn hg inp tp ch co cn b7 b8 b9 b10 b11 b12 b13 h7 h8
    have hk' : k = 16 := by omega
    subst hk'
    refine br_t (by decide) (H _ ⟨rfl, rfl, rfl, g1, rfl, rfl, g4, g5, g6, ?_, h8⟩)
    rw [h7]
    exact mr_told16
  | succ n ih =>
    intro k hk pl dn hg inp tp ch co cn b7 b8 b9 b10 b11 b12 b13 h7 h8
    have hk' : k < 16 := by omega
    refine br_f (nI_ge (b := 16) hk' (by decide)) (mr_rw g1 (mr_lo k hk') (mr_hi k hk') (fun r c9 c10 c11 c12 hr g10 g11 g12 => ?_))
    have F8 : ∀ j, j < k + 1 → upd b8 k r j = nI j - 8 := mr_fill (f := fun j => nI j - 8) rfl h8 hr
    have e8 : upd b8 k r (nI k).toNatClampNeg = nI k - 8 := by
      rw [nI_clamp (by omega)]
      exact F8 k (by omega)
    refine ⟨pk_in k 16 hk', nm_r (e' := upd b8 k r) (by rw [nI_clamp (by omega)]) ⟨0 + 1 + 1, ?_⟩⟩
    refine br_f (by decide) ⟨pk_in k 16 hk', mr_rf g4 g5 g6 g10 g11 g12 (fun r2 d9 hr2 => ?_)⟩
    refine ⟨pk_in k 16 hk', br_c (fun z => ?_) (fun z => ?_)⟩
    · rw [hr2, e8] at z
      refine nm_r (e' := 1) (by decide) (mr_p81 g1 (ih (k + 1) (by omega) _ _ _ _ _ _ _ _ _ _ _ _ _ _ _ ?_ F8) rfl)
      rw [h7]
      exact (if_pos z).symm
    · rw [hr2, e8] at z
      refine ⟨(vp_in_iff.mpr (by decide)), (vp_in_iff.mpr (by decide)), nm_r (e' := upd b7 0 (mr_told k ||| ((1 : Int32) <<< (nI k &&& 31)))) (by rw [mr_c0, h7]) (nm_r (e' := 1) (by decide) (mr_p81 g1 (ih (k + 1) (by omega) _ _ _ _ _ _ _ _ _ _ _ _ _ _ _ ?_ F8) rfl))⟩
      rw [pk_us]
      exact (if_neg z).symm
theorem mr_prep {post : St2 → Prop} {A : Nat → Int32} {u : St2} (h : mr_ok T A u) (H : ∀ u, mr_re T A u → post u) : wpX_prepare post u := by
  obtain ⟨sz, tr, rd, mu, pl, dn, hg, inp, tp, ch, co, cn, b1, b2, b3, b4, b5, b6, b7, b8, b9, b10, b11, b12, b13⟩ := u
  obtain ⟨e1, e2, e3, g1, hc⟩ := h
  subst e1 e2 e3
  rcases hc with hc | hc
  · subst hc
    refine br_t rfl ⟨0 + 1 + 1, br_f (by decide) (mr_addAt g1 (nm_r (e' := 1) (by decide) (br_t (by decide) ⟨0 + 1 + 1, br_f (by decide) ⟨(vp_in_iff.mpr (by decide)), nm_r (e' := upd b7 0 0) (by rw [mr_c0]) (nm_r (e' := 1) (by decide) (br_t (by decide) ⟨16 + 1, ?_⟩))⟩⟩)))⟩
    exact mr_p59 g1 pk_us pk_us pk_us H 16 0 rfl _ _ _ _ _ _ _ _ _ _ _ _ _ _ _ pk_us (fun j hj => absurd hj (by omega))
  · refine br_f ?_ (H _ ⟨rfl, rfl, rfl, g1, hc⟩)
    rw [hc.1]
    decide
end
end
section
section
variable {T rd mu pl dn hg inp tp ch co cn x : Int32} {b1 b2 b3 b4 b5 b6 b7 b8 b9 b10 b11 b12 b13 : Nat → Int32}
theorem mr_ofIn {x : Int32} (h : mr_in x) : ∃ k, k < 16 ∧ x + 8 = nI k ∧ x = nI k - 8 := by
  obtain ⟨h1, h2⟩ := h
  have a1 : (-8 : Int) ≤ x.toInt := by
    have := Int32.not_lt.mp h1
    exact Int32.le_iff_toInt_le.mp this
  have a2 : x.toInt ≤ 7 := Int32.le_iff_toInt_le.mp h2
  have e : (x + 8).toInt = x.toInt + 8 := by
    rw [Int32.toInt_add]
    show Int.bmod (x.toInt + 8) _ = _
    rw [Int.bmod_eq_of_le] <;> omega
  have l0 : ¬ x + 8 < 0 := by
    intro z
    have z' : (x + 8).toInt < 0 := Int32.lt_iff_toInt_lt.mp z
    omega
  have l1 : x + 8 ≤ 15 := by
    refine Int32.le_iff_toInt_le.mpr ?_
    show (x + 8).toInt ≤ 15
    omega
  obtain ⟨j, hj, ej⟩ := nI_of2 (n := 15) (by decide) l0 l1
  refine ⟨j, by omega, ej, ?_⟩
  rw [← ej]
  exact (Int32.add_sub_cancel x 8).symm
theorem mr_bi {post : Int32 → Prop} {u : St2} (h1 : mr_in x → post 0) (h2 : ¬ mr_in x → post 1) : wpX_badInput post u x := by
  obtain ⟨sz, tr, rd, mu, pl, dn, hg, inp, tp, ch, co, cn, b1, b2, b3, b4, b5, b6, b7, b8, b9, b10, b11, b12, b13⟩ := u
  exact br_c (fun z => h2 (fun t => t.1 z)) (fun z => br_c (fun w => h1 ⟨z, w⟩) (fun w => h2 (fun t => w t.2)))
theorem mr_outcome {post : Int32 → St2 → Prop} {A : Nat → Int32} {u : St2} (h : mr_ok T A u) (h1 : mr_in x → ∀ v, mr_ok T A v → post x v) (h2 : ¬ mr_in x → ∀ v, mr_ok T A v → post (-10001) v) : wpX_outcome post u x := by
  have h0 := h
  obtain ⟨sz, tr, rd, mu, pl, dn, hg, inp, tp, ch, co, cn, b1, b2, b3, b4, b5, b6, b7, b8, b9, b10, b11, b12, b13⟩ := u
  unfold wpX_outcome
  refine mr_bi (fun c => br_t rfl (mr_prep h0 (fun v hv => ?_))) (fun c => br_f (by decide) (h2 c _ h))
  have hv' := mr_reok hv
  obtain ⟨sz, tr, rd, mu, pl, dn, hg, inp, tp, ch, co, cn, c1, c2, c3, c4, c5, c6, c7, c8, c9, c10, c11, c12, c13⟩ := v
  obtain ⟨k, hk, ek, ex⟩ := mr_ofIn c
  have e : c8 (x + 8).toNatClampNeg = x := by
    rw [ek, nI_clamp (by omega), hv.2.2.2.2.2.2.2.2.2.2 k hk]
    exact ex.symm
  refine ⟨by rw [ek]; exact pk_in k 16 hk, ?_⟩
  rw [e]
  exact h1 c _ hv'
theorem mr_no {post : Int32 → St2 → Prop} {A : Nat → Int32} {u : St2} (h : mr_ok T A u) (h1 : x = 0 → ∀ v, mr_re T A v → post 0 v) (h2 : ¬ x = 0 → ∀ v, mr_re T A v → post 1 v) : wpX_noMutant post u x := by
  have h0 := h
  obtain ⟨sz, tr, rd, mu, pl, dn, hg, inp, tp, ch, co, cn, b1, b2, b3, b4, b5, b6, b7, b8, b9, b10, b11, b12, b13⟩ := u
  refine mr_prep h0 (fun v hv => ?_)
  have hv' := hv
  obtain ⟨sz, tr, rd, mu, pl, dn, hg, inp, tp, ch, co, cn, c1, c2, c3, c4, c5, c6, c7, c8, c9, c10, c11, c12, c13⟩ := v
  have e : mu = 1 := hv.2.2.2.2.2.1
  refine br_c (fun z => h2 (fun t => ?_) _ hv') (fun z => br_c (fun w => h1 ?_ _ hv') (fun w => h2 (fun t => w ?_) _ hv'))
  · rw [t] at z
    exact absurd z (by decide)
  · rw [e] at w
    have z' : ¬ x.toInt < 0 := fun q => z (Int32.lt_iff_toInt_lt.mpr q)
    have w' : x.toInt < 1 := Int32.lt_iff_toInt_lt.mp w
    refine Int32.toInt_inj.mp ?_
    show x.toInt = 0
    omega
  · rw [t, e]
    decide
theorem mr_outcomeOf {post : Int32 → St2 → Prop} {A : Nat → Int32} {u : St2} {m : Int32} (h : mr_ok T A u) (h1 : mr_in x → m = 0 → ∀ v, mr_ok T A v → post 0 v) (h2 : mr_in x → ¬ m = 0 → ∀ v, mr_ok T A v → post (-10004) v) (h3 : ¬ mr_in x → ∀ v, mr_ok T A v → post (-10001) v) : wpX_outcomeOf post u m x := by
  have h0 := h
  obtain ⟨sz, tr, rd, mu, pl, dn, hg, inp, tp, ch, co, cn, b1, b2, b3, b4, b5, b6, b7, b8, b9, b10, b11, b12, b13⟩ := u
  unfold wpX_outcomeOf
  refine mr_bi (fun c => br_t rfl (mr_no h0 (fun e v hv => ?_) (fun e v hv => ?_))) (fun c => br_f (by decide) (h3 c _ h))
  · obtain ⟨sz, tr, rd, mu, pl, dn, hg, inp, tp, ch, co, cn, c1, c2, c3, c4, c5, c6, c7, c8, c9, c10, c11, c12, c13⟩ := v
    obtain ⟨e1, e2, e3, g1, r1, r2, g4, g5, g6, g7, g8⟩ := hv
    subst e1 e2 e3 e
    obtain ⟨k, hk, ek, ex⟩ := mr_ofIn c
    refine br_t rfl (mr_rw_2 g1 (by rw [ex]; exact mr_lo k hk) (by rw [ex]; exact mr_hi k hk) (fun r d9 d10 d11 d12 hr g10 g11 g12 => ?_))
    refine mr_rf g4 g5 g6 g10 g11 g12 (fun r2 f9 hr2 => ?_)
    subst hr2
    exact h1 c rfl _ ⟨rfl, rfl, rfl, g1, Or.inr ⟨r1, r2, g4, g5, g6, g7, g8⟩⟩
  · have hv' := mr_reok hv
    obtain ⟨sz, tr, rd, mu, pl, dn, hg, inp, tp, ch, co, cn, c1, c2, c3, c4, c5, c6, c7, c8, c9, c10, c11, c12, c13⟩ := v
    exact br_f (by decide) (h2 c e _ hv')
theorem mr_trial {post : Int32 → St2 → Prop} {A : Nat → Int32} {u : St2} (h : mr_ok 0 A u) (h1 : mr_in x → ∀ v, mr_ok 1 (upd A 0 x) v → post 1 v) (h2 : ¬ mr_in x → ∀ v, mr_ok 0 A v → post (-10001) v) : wpX_trial post u x := by
  have h0 := h
  obtain ⟨sz, tr, rd, mu, pl, dn, hg, inp, tp, ch, co, cn, b1, b2, b3, b4, b5, b6, b7, b8, b9, b10, b11, b12, b13⟩ := u
  unfold wpX_trial
  refine mr_bi (fun c => br_t rfl ⟨0 + 1, ?_⟩) (fun c => br_f (by decide) (h2 c _ h0))
  obtain ⟨e1, e2, e3, g1, hc⟩ := h
  subst e1 e2 e3
  refine br_t (by decide) (br_f (by decide) ⟨(vp_in_iff.mpr (by decide)), nm_r (e' := upd b3 0 x) (by rw [mr_c0]) (nm_r (e' := 1) (by decide) ?_)⟩)
  exact h1 c _ ⟨rfl, rfl, rfl, g1, hc⟩
theorem mr_bit1 : ∀ k, k < 16 → ¬ nI k - 8 = 0 → ((65279 : Int32) >>> ((nI k - 8 + 8) &&& 31)) &&& 1 = 1 := by decide +kernel
theorem mr_bit0 : ¬ ((65279 : Int32) >>> (((0 : Int32) + 8) &&& 31)) &&& 1 = 1 := by decide +kernel
theorem mr_kil0 {post : Int32 → St2 → Prop} {A : Nat → Int32} {u : St2} {m : Int32} (h : mr_ok 0 A u) (h1 : m = 0 → ∀ v, mr_ok 0 A v → post 0 v) (h2 : ¬ m = 0 → ∀ v, mr_ok 0 A v → post (-10004) v) : wpX_killers post u m := by
  have h0 := h
  obtain ⟨sz, tr, rd, mu, pl, dn, hg, inp, tp, ch, co, cn, b1, b2, b3, b4, b5, b6, b7, b8, b9, b10, b11, b12, b13⟩ := u
  unfold wpX_killers
  refine mr_no h0 (fun e v hv => ?_) (fun e v hv => ?_)
  · have hv' := mr_reok hv
    obtain ⟨sz, tr, rd, mu, pl, dn, hg, inp, tp, ch, co, cn, c1, c2, c3, c4, c5, c6, c7, c8, c9, c10, c11, c12, c13⟩ := v
    have e2 := hv.2.1
    subst e2
    exact br_t rfl ⟨0 + 1, br_t (by decide) (h1 e _ hv')⟩
  · have hv' := mr_reok hv
    obtain ⟨sz, tr, rd, mu, pl, dn, hg, inp, tp, ch, co, cn, c1, c2, c3, c4, c5, c6, c7, c8, c9, c10, c11, c12, c13⟩ := v
    exact br_f (by decide) (h2 e _ hv')
theorem mr_kil1 {post : Int32 → St2 → Prop} {A : Nat → Int32} {u : St2} {m : Int32} (hx : mr_in x) (hA : A 0 = x) (h : mr_ok 1 A u) (h1 : m = 0 → x = 0 → ∀ v, mr_ok 1 A v → post 0 v) (h1' : m = 0 → ¬ x = 0 → ∀ v, mr_ok 1 A v → post 1 v) (h2 : ¬ m = 0 → ∀ v, mr_ok 1 A v → post (-10004) v) : wpX_killers post u m := by
  have h0 := h
  obtain ⟨sz, tr, rd, mu, pl, dn, hg, inp, tp, ch, co, cn, b1, b2, b3, b4, b5, b6, b7, b8, b9, b10, b11, b12, b13⟩ := u
  unfold wpX_killers
  refine mr_no h0 (fun e v hv => ?_) (fun e v hv => ?_)
  · have hv' := mr_reok hv
    obtain ⟨sz, tr, rd, mu, pl, dn, hg, inp, tp, ch, co, cn, c1, c2, c3, c4, c5, c6, c7, c8, c9, c10, c11, c12, c13⟩ := v
    obtain ⟨e1, e2, e3, g1, r1, r2, g4, g5, g6, g7, g8⟩ := hv
    subst e1 e2 e3 e
    refine br_t rfl ⟨0 + 1 + 1, br_f (by decide) ⟨(vp_in_iff.mpr (by decide)), (vp_in_iff.mpr (by decide)), ?_⟩⟩
    rw [mr_c0, g7, hA]
    by_cases z : x = 0
    · rw [z]
      exact br_f mr_bit0 (nm_r (e' := 1) (by decide) (br_t (by decide) (h1 rfl z _ hv')))
    · obtain ⟨k, hk, ek, ex⟩ := mr_ofIn hx
      refine br_t ?_ (nm_r (e' := 1) (by decide) (nm_r (e' := 1) (by decide) (br_t (by decide) (h1' rfl z _ hv'))))
      rw [ex] at z ⊢
      exact mr_bit1 k hk z
  · have hv' := mr_reok hv
    obtain ⟨sz, tr, rd, mu, pl, dn, hg, inp, tp, ch, co, cn, c1, c2, c3, c4, c5, c6, c7, c8, c9, c10, c11, c12, c13⟩ := v
    exact br_f (by decide) (h2 e _ hv')
theorem mr_killer {post : Int32 → St2 → Prop} {A : Nat → Int32} {u : St2} {m : Int32} (h : mr_ok T A u) (h1 : m = 0 → ∀ v, mr_ok T A v → post (-8) v) (h2 : ¬ m = 0 → ∀ v, mr_ok T A v → post (-10004) v) : wpX_killer post u m := by
  have h0 := h
  obtain ⟨sz, tr, rd, mu, pl, dn, hg, inp, tp, ch, co, cn, b1, b2, b3, b4, b5, b6, b7, b8, b9, b10, b11, b12, b13⟩ := u
  unfold wpX_killer
  refine mr_no h0 (fun e v hv => ?_) (fun e v hv => ?_)
  · have hv' := mr_reok hv
    obtain ⟨sz, tr, rd, mu, pl, dn, hg, inp, tp, ch, co, cn, c1, c2, c3, c4, c5, c6, c7, c8, c9, c10, c11, c12, c13⟩ := v
    obtain ⟨e1, e2, e3, g1, r1, r2, g4, g5, g6, g7, g8⟩ := hv
    subst e
    refine br_t rfl ⟨0 + 1, br_f (by decide) ⟨(vp_in_iff.mpr (by decide)), br_t ?_ (h1 rfl _ hv')⟩⟩
    rw [mr_c0, g7]
    decide
  · have hv' := mr_reok hv
    obtain ⟨sz, tr, rd, mu, pl, dn, hg, inp, tp, ch, co, cn, c1, c2, c3, c4, c5, c6, c7, c8, c9, c10, c11, c12, c13⟩ := v
    exact br_f (by decide) (h2 e _ hv')
end
end
section
section
variable {T rd mu pl dn hg inp tp ch co cn x : Int32} {b1 b2 b3 b4 b5 b6 b7 b8 b9 b10 b11 b12 b13 : Nat → Int32}
/-- what append takes -/
abbrev mr_fit (o a : Int32) : Prop := (o = 0 ∧ ¬ a < (-8) ∧ a ≤ 7) ∨ (o = 8 ∧ ¬ a < 0 ∧ a ≤ 3) ∨ (o = 9 ∧ ¬ a < 0 ∧ a ≤ 9) ∨ (¬ o = 0 ∧ ¬ o = 8 ∧ ¬ o = 9 ∧ ¬ o ≤ 0 ∧ ¬ 8 ≤ o)
theorem mr_mid {o : Int32} (h0 : ¬ o = 0) (h8 : ¬ o = 8) (h9 : ¬ o = 9) (l : ¬ o < 0) (g : ¬ 9 < o) : ¬ o ≤ 0 ∧ ¬ 8 ≤ o := by
  have l' : 0 ≤ o.toInt := Int32.le_iff_toInt_le.mp (Int32.not_lt.mp l)
  have g' : o.toInt ≤ 9 := Int32.le_iff_toInt_le.mp (Int32.not_lt.mp g)
  have a0 : ¬ o.toInt = 0 := fun z => h0 (Int32.toInt_inj.mp z)
  have a8 : ¬ o.toInt = 8 := fun z => h8 (Int32.toInt_inj.mp z)
  have a9 : ¬ o.toInt = 9 := fun z => h9 (Int32.toInt_inj.mp z)
  constructor
  · intro z
    have z' : o.toInt ≤ 0 := Int32.le_iff_toInt_le.mp z
    omega
  · intro z
    have z' : 8 ≤ o.toInt := Int32.le_iff_toInt_le.mp z
    omega
theorem mr_low {o a : Int32} (l : o < 0) : ¬ mr_fit o a := by
  have l' : o.toInt < 0 := Int32.lt_iff_toInt_lt.mp l
  rintro (h | h | h | h)
  · rw [h.1] at l
    exact absurd l (by decide)
  · rw [h.1] at l
    exact absurd l (by decide)
  · rw [h.1] at l
    exact absurd l (by decide)
  · refine h.2.2.2.1 (Int32.le_iff_toInt_le.mpr ?_)
    show o.toInt ≤ 0
    omega
theorem mr_high {o a : Int32} (l : 9 < o) : ¬ mr_fit o a := by
  have l' : 9 < o.toInt := Int32.lt_iff_toInt_lt.mp l
  rintro (h | h | h | h)
  · rw [h.1] at l
    exact absurd l (by decide)
  · rw [h.1] at l
    exact absurd l (by decide)
  · rw [h.1] at l
    exact absurd l (by decide)
  · refine h.2.2.2.2 (Int32.le_iff_toInt_le.mpr ?_)
    show 8 ≤ o.toInt
    omega
theorem mr_f0 {o a : Int32} (h : o = 0) : mr_fit o a ↔ ¬ a < (-8) ∧ a ≤ 7 := by
  subst h
  constructor
  · rintro (h | h | h | h)
    · exact h.2
    · exact absurd h.1 (by decide)
    · exact absurd h.1 (by decide)
    · exact absurd rfl h.1
  · exact fun h => Or.inl ⟨rfl, h⟩
theorem mr_f8 {o a : Int32} (h : o = 8) : mr_fit o a ↔ ¬ a < 0 ∧ a ≤ 3 := by
  subst h
  constructor
  · rintro (h | h | h | h)
    · exact absurd h.1 (by decide)
    · exact h.2
    · exact absurd h.1 (by decide)
    · exact absurd rfl h.2.1
  · exact fun h => Or.inr (Or.inl ⟨rfl, h⟩)
theorem mr_f9 {o a : Int32} (h : o = 9) : mr_fit o a ↔ ¬ a < 0 ∧ a ≤ 9 := by
  subst h
  constructor
  · rintro (h | h | h | h)
    · exact absurd h.1 (by decide)
    · exact absurd h.1 (by decide)
    · exact h.2
    · exact absurd rfl h.2.2.1
  · exact fun h => Or.inr (Or.inr (Or.inl ⟨rfl, h⟩))
theorem mr_fm {o a : Int32} (h0 : ¬ o = 0) (h8 : ¬ o = 8) (h9 : ¬ o = 9) : mr_fit o a ↔ ¬ o ≤ 0 ∧ ¬ 8 ≤ o := by
  constructor
  · rintro (h | h | h | h)
    · exact absurd h.1 h0
    · exact absurd h.1 h8
    · exact absurd h.1 h9
    · exact h.2.2.2
  · exact fun h => Or.inr (Or.inr (Or.inr ⟨h0, h8, h9, h⟩))
theorem mr_bn {post : Int32 → Prop} {u : St2} {o a : Int32} (l : ¬ o < 0) (g : ¬ 9 < o) (h1 : mr_fit o a → post 0) (h2 : ¬ mr_fit o a → post 1) : wpX_badNumber post u o a := by
  obtain ⟨sz, tr, rd, mu, pl, dn, hg, inp, tp, ch, co, cn, b1, b2, b3, b4, b5, b6, b7, b8, b9, b10, b11, b12, b13⟩ := u
  refine br_c (fun z => ?_) (fun z => br_c (fun w => ?_) (fun w => br_c (fun v => ?_) (fun v => ?_)))
  · exact br_c (fun c => h2 (fun t => ((mr_f0 z).mp t).1 c)) (fun c => br_c (fun d => h1 ((mr_f0 z).mpr ⟨c, d⟩)) (fun d => h2 (fun t => d ((mr_f0 z).mp t).2)))
  · exact br_c (fun c => h2 (fun t => ((mr_f8 w).mp t).1 c)) (fun c => br_c (fun d => h1 ((mr_f8 w).mpr ⟨c, d⟩)) (fun d => h2 (fun t => d ((mr_f8 w).mp t).2)))
  · exact br_c (fun c => h2 (fun t => ((mr_f9 v).mp t).1 c)) (fun c => br_c (fun d => h1 ((mr_f9 v).mpr ⟨c, d⟩)) (fun d => h2 (fun t => d ((mr_f9 v).mp t).2)))
  · exact h1 ((mr_fm z w v).mpr (mr_mid z w v l g))
theorem mr_a69 {post : Int32 → St2 → Prop} {w : Int32} (H : ∀ v, post 1 v) : wX_append_69 post w 1 1 T rd mu pl dn hg inp tp ch co cn b1 b2 b3 b4 b5 b6 b7 b8 b9 b10 b11 b12 b13 := by
  refine ⟨(vp_in_iff.mpr (by decide)), nm_e (nm_r (e' := 2) (by decide) ?_)⟩
  exact H _
theorem mr_append {post : Int32 → St2 → Prop} {A : Nat → Int32} {u : St2} {o a : Int32} (h : mr_ok T A u) (h1 : mr_fit o a → ∀ v, post 1 v) (h2 : ¬ mr_fit o a → ∀ v, post (-10001) v) : wpX_append post u o a := by
  obtain ⟨sz, tr, rd, mu, pl, dn, hg, inp, tp, ch, co, cn, b1, b2, b3, b4, b5, b6, b7, b8, b9, b10, b11, b12, b13⟩ := u
  have e1 := h.1
  subst e1
  refine br_c (fun z => h2 (mr_low z) _) (fun z => br_c (fun w => h2 (mr_high w) _) (fun w => mr_bn z w (fun c => ?_) (fun c => br_f (by decide) (h2 c _))))
  refine br_t rfl (br_f (by decide) ⟨(vp_in_iff.mpr (by decide)), nm_e (br_c (fun q => ?_) (fun q => br_c (fun p => ?_) (fun p => ?_)))⟩)
  · exact mr_a69 (h1 c)
  · exact mr_a69 (h1 c)
  · exact mr_a69 (h1 c)
end
end
section
section
variable {post : Int32 → St0 → Prop} {mc ms kc ks : Nat} {x0 x1 x2 x3 x4 x6 x7 x8 x9 x10 x11 x12 x13 x14 z0 z1 : Int32}
theorem mr_l293 (H : post 1 ()) (h11 : x11 = if x14 = 0 then -10001 else 1) (e : z1 = z0) : wL_lawOf_293 post mc ms x11 x14 z0 z1 kc ks :=
  br_t e (br_c (fun g => br_t (h11.trans (if_pos g)) H) (fun g => br_t (h11.trans (if_neg g)) H))
theorem mr_l276 (H : post 1 ()) (h10 : x10 = if x3 = 0 then -8 else -10004) (h11 : x11 = if x14 = 0 then -10001 else 1) (e : z1 = z0) : wL_lawOf_276 post mc ms x3 x10 x11 x14 z0 z1 kc ks :=
  br_t e (br_c (fun g => mr_l293 H h11 (h10.trans (if_pos g))) (fun g => mr_l293 H h11 (h10.trans (if_neg g))))
theorem mr_l246 (H : post 1 ()) (h9 : x9 = if x3 = 0 then (if x13 = 0 then 0 else if x4 = 0 then 0 else 1) else -10004) (h10 : x10 = if x3 = 0 then -8 else -10004) (h11 : x11 = if x14 = 0 then -10001 else 1) (e : z1 = z0) : wL_lawOf_246 post mc ms x3 x4 x9 x10 x11 x13 x14 z0 z1 kc ks :=
  br_t e (br_c (fun g => br_c (fun g2 => mr_l276 H h10 h11 (h9.trans ((if_pos g).trans (if_pos g2)))) (fun g2 => br_c (fun g3 => mr_l276 H h10 h11 (h9.trans ((if_pos g).trans ((if_neg g2).trans (if_pos g3))))) (fun g3 => mr_l276 H h10 h11 (h9.trans ((if_pos g).trans ((if_neg g2).trans (if_neg g3))))))) (fun g => mr_l276 H h10 h11 (h9.trans (if_neg g))))
theorem mr_l229 (H : post 1 ()) (h8 : x8 = if x13 = 0 then -10001 else 1) (h9 : x9 = if x3 = 0 then (if x13 = 0 then 0 else if x4 = 0 then 0 else 1) else -10004) (h10 : x10 = if x3 = 0 then -8 else -10004) (h11 : x11 = if x14 = 0 then -10001 else 1) (e : z1 = z0) : wL_lawOf_229 post mc ms x3 x4 x8 x9 x10 x11 x13 x14 z0 z1 kc ks :=
  br_t e (br_c (fun g => mr_l246 H h9 h10 h11 (h8.trans (if_pos g))) (fun g => mr_l246 H h9 h10 h11 (h8.trans (if_neg g))))
theorem mr_l202 (H : post 1 ()) (h7 : x7 = if x12 = 0 then -10001 else if x3 = 0 then 0 else -10004) (h8 : x8 = if x13 = 0 then -10001 else 1) (h9 : x9 = if x3 = 0 then (if x13 = 0 then 0 else if x4 = 0 then 0 else 1) else -10004) (h10 : x10 = if x3 = 0 then -8 else -10004) (h11 : x11 = if x14 = 0 then -10001 else 1) (e : z1 = z0) : wL_lawOf_202 post mc ms x3 x4 x7 x8 x9 x10 x11 x12 x13 x14 z0 z1 kc ks :=
  br_t e (br_c (fun g => mr_l229 H h8 h9 h10 h11 (h7.trans (if_pos g))) (fun g => br_c (fun g2 => mr_l229 H h8 h9 h10 h11 (h7.trans ((if_neg g).trans (if_pos g2)))) (fun g2 => mr_l229 H h8 h9 h10 h11 (h7.trans ((if_neg g).trans (if_neg g2))))))
theorem mr_l186 (H : post 1 ()) (h6 : x6 = if x12 = 0 then -10001 else x2) (h7 : x7 = if x12 = 0 then -10001 else if x3 = 0 then 0 else -10004) (h8 : x8 = if x13 = 0 then -10001 else 1) (h9 : x9 = if x3 = 0 then (if x13 = 0 then 0 else if x4 = 0 then 0 else 1) else -10004) (h10 : x10 = if x3 = 0 then -8 else -10004) (h11 : x11 = if x14 = 0 then -10001 else 1) : wL_lawOf_186 post mc ms x2 x3 x4 x6 x7 x8 x9 x10 x11 x12 x13 x14 kc ks :=
  br_c (fun g => mr_l202 H h7 h8 h9 h10 h11 (h6.trans (if_pos g))) (fun g => mr_l202 H h7 h8 h9 h10 h11 (h6.trans (if_neg g)))
theorem mr_gt {a b : Int32} (h : b < a) : ¬ a ≤ b := fun z => absurd (Int32.lt_iff_toInt_lt.mp h) (by have := Int32.le_iff_toInt_le.mp z; omega)
theorem mr_l98 (H : post 1 ()) (h6 : x6 = if x12 = 0 then -10001 else x2) (h7 : x7 = if x12 = 0 then -10001 else if x3 = 0 then 0 else -10004) (h8 : x8 = if x13 = 0 then -10001 else 1) (h9 : x9 = if x3 = 0 then (if x13 = 0 then 0 else if x4 = 0 then 0 else 1) else -10004) (h10 : x10 = if x3 = 0 then -8 else -10004) (f1 : mr_fit x0 x1 → x11 = 1) (f2 : ¬ mr_fit x0 x1 → x11 = -10001) : wL_lawOf_98 post mc ms x0 x1 x2 x3 x4 x6 x7 x8 x9 x10 x11 x12 x13 kc ks := by
  have Y : mr_fit x0 x1 → wL_lawOf_186 post mc ms x2 x3 x4 x6 x7 x8 x9 x10 x11 x12 x13 1 kc ks := fun c => mr_l186 H h6 h7 h8 h9 h10 (f1 c)
  have N : ¬ mr_fit x0 x1 → wL_lawOf_186 post mc ms x2 x3 x4 x6 x7 x8 x9 x10 x11 x12 x13 0 kc ks := fun c => mr_l186 H h6 h7 h8 h9 h10 (f2 c)
  refine br_c (fun z => ?_) (fun z => br_c (fun w => ?_) (fun w => br_c (fun v => ?_) (fun v => ?_)))
  · exact br_c (fun c => N (fun t => ((mr_f0 z).mp t).1 c)) (fun c => br_c (fun d => N (fun t => mr_gt d ((mr_f0 z).mp t).2)) (fun d => Y ((mr_f0 z).mpr ⟨c, Int32.not_lt.mp d⟩)))
  · exact br_c (fun c => N (fun t => ((mr_f8 w).mp t).1 c)) (fun c => br_c (fun d => N (fun t => mr_gt d ((mr_f8 w).mp t).2)) (fun d => Y ((mr_f8 w).mpr ⟨c, Int32.not_lt.mp d⟩)))
  · exact br_c (fun c => N (fun t => ((mr_f9 v).mp t).1 c)) (fun c => br_c (fun d => N (fun t => mr_gt d ((mr_f9 v).mp t).2)) (fun d => Y ((mr_f9 v).mpr ⟨c, Int32.not_lt.mp d⟩)))
  · exact br_c (fun c => N (fun t => ((mr_fm z w v).mp t).1 c)) (fun c => br_c (fun d => N (fun t => ((mr_fm z w v).mp t).2 d)) (fun d => Y ((mr_fm z w v).mpr ⟨c, d⟩)))
end
section
variable {post : Int32 → St0 → Prop} {mc ms kc ks : Nat} {x0 x1 x2 x3 x4 x6 x7 x8 x9 x10 x11 x12 : Int32}
theorem mr_l77 (H : post 1 ()) (h6 : x6 = if x12 = 0 then -10001 else x2) (h7 : x7 = if x12 = 0 then -10001 else if x3 = 0 then 0 else -10004) (k8 : x8 = if mr_in x4 then 1 else -10001) (k9 : x9 = if x3 = 0 then (if mr_in x4 then (if x4 = 0 then 0 else 1) else 0) else -10004) (h10 : x10 = if x3 = 0 then -8 else -10004) (f1 : mr_fit x0 x1 → x11 = 1) (f2 : ¬ mr_fit x0 x1 → x11 = -10001) : wL_lawOf_77 post mc ms x0 x1 x2 x3 x4 x6 x7 x8 x9 x10 x11 x12 kc ks := by
  have Y : mr_in x4 → wL_lawOf_98 post mc ms x0 x1 x2 x3 x4 x6 x7 x8 x9 x10 x11 x12 1 kc ks := fun c => mr_l98 H h6 h7 (by rw [k8, if_pos c]; rfl) (by rw [k9, if_pos c]; rfl) h10 f1 f2
  have N : ¬ mr_in x4 → wL_lawOf_98 post mc ms x0 x1 x2 x3 x4 x6 x7 x8 x9 x10 x11 x12 0 kc ks := fun c => mr_l98 H h6 h7 (by rw [k8, if_neg c]; rfl) (by rw [k9, if_neg c]; rfl) h10 f1 f2
  exact br_c (fun c => N (fun t => t.1 c)) (fun c => br_c (fun d => N (fun t => mr_gt d t.2)) (fun d => Y ⟨c, Int32.not_lt.mp d⟩))
theorem mr_lend (H : post 1 ()) (k6 : x6 = if mr_in x2 then x2 else -10001) (k7 : x7 = if mr_in x2 then (if x3 = 0 then 0 else -10004) else -10001) (k8 : x8 = if mr_in x4 then 1 else -10001) (k9 : x9 = if x3 = 0 then (if mr_in x4 then (if x4 = 0 then 0 else 1) else 0) else -10004) (h10 : x10 = if x3 = 0 then -8 else -10004) (f1 : mr_fit x0 x1 → x11 = 1) (f2 : ¬ mr_fit x0 x1 → x11 = -10001) :
    ((x2 < (-8) → wL_lawOf_76 post mc ms x0 x1 x2 x3 x4 x6 x7 x8 x9 x10 x11 kc ks) ∧ (¬ x2 < (-8) → ((7 < x2 → wL_lawOf_76 post mc ms x0 x1 x2 x3 x4 x6 x7 x8 x9 x10 x11 kc ks) ∧ (¬ 7 < x2 → wL_lawOf_77 post mc ms x0 x1 x2 x3 x4 x6 x7 x8 x9 x10 x11 1 kc ks)))) := by
  have Y : mr_in x2 → wL_lawOf_77 post mc ms x0 x1 x2 x3 x4 x6 x7 x8 x9 x10 x11 1 kc ks := fun c => mr_l77 H (by rw [k6, if_pos c]; rfl) (by rw [k7, if_pos c]; rfl) k8 k9 h10 f1 f2
  have N : ¬ mr_in x2 → wL_lawOf_77 post mc ms x0 x1 x2 x3 x4 x6 x7 x8 x9 x10 x11 0 kc ks := fun c => mr_l77 H (by rw [k6, if_neg c]; rfl) (by rw [k7, if_neg c]; rfl) k8 k9 h10 f1 f2
  exact br_c (fun c => N (fun t => t.1 c)) (fun c => br_c (fun d => N (fun t => mr_gt d t.2)) (fun d => Y ⟨c, Int32.not_lt.mp d⟩))
end
end
section
section
variable {T rd mu pl dn hg inp tp ch co cn x : Int32} {b1 b2 b3 b4 b5 b6 b7 b8 b9 b10 b11 b12 b13 : Nat → Int32}
theorem mr_outcome' {post : Int32 → St2 → Prop} {A : Nat → Int32} {u : St2} (h : mr_ok T A u) (H : ∀ r v, r = (if mr_in x then x else -10001) → mr_ok T A v → post r v) : wpX_outcome post u x :=
  mr_outcome h (fun c v hv => H _ v (if_pos c).symm hv) (fun c v hv => H _ v (if_neg c).symm hv)
theorem mr_outcomeOf' {post : Int32 → St2 → Prop} {A : Nat → Int32} {u : St2} {m : Int32} (h : mr_ok T A u) (H : ∀ r v, r = (if mr_in x then (if m = 0 then 0 else -10004) else -10001) → mr_ok T A v → post r v) : wpX_outcomeOf post u m x :=
  mr_outcomeOf h (fun c d v hv => H _ v ((if_pos c).trans (if_pos d)).symm hv) (fun c d v hv => H _ v ((if_pos c).trans (if_neg d)).symm hv) (fun c v hv => H _ v (if_neg c).symm hv)
theorem mr_killer' {post : Int32 → St2 → Prop} {A : Nat → Int32} {u : St2} {m : Int32} (h : mr_ok T A u) (H : ∀ r v, r = (if m = 0 then -8 else -10004) → mr_ok T A v → post r v) : wpX_killer post u m :=
  mr_killer h (fun c v hv => H _ v (if_pos c).symm hv) (fun c v hv => H _ v (if_neg c).symm hv)
theorem mr_append' {post : Int32 → St2 → Prop} {A : Nat → Int32} {u : St2} {o a : Int32} (h : mr_ok T A u) (H : ∀ r v, (mr_fit o a → r = 1) → (¬ mr_fit o a → r = -10001) → post r v) : wpX_append post u o a :=
  mr_append h (fun c v => H _ v (fun _ => rfl) (fun d => absurd c d)) (fun c v => H _ v (fun d => absurd d c) (fun _ => rfl))
/-- after the trial t: T trials in A, the killers of mutant 0 among them -/
def mr_tr (t T : Int32) (A : Nat → Int32) : Prop := (¬ mr_in t ∧ T = 0) ∨ (mr_in t ∧ T = 1 ∧ A 0 = t)
theorem mr_trial' {post : Int32 → St2 → Prop} {A : Nat → Int32} {u : St2} (h : mr_ok 0 A u) (H : ∀ r T A' v, r = (if mr_in x then 1 else -10001) → mr_tr x T A' → mr_ok T A' v → post r v) : wpX_trial post u x :=
  mr_trial h (fun c v hv => H _ _ _ v (if_pos c).symm (Or.inr ⟨c, rfl, pk_us⟩) hv) (fun c v hv => H _ _ _ v (if_neg c).symm (Or.inl ⟨c, rfl⟩) hv)
theorem mr_killers' {post : Int32 → St2 → Prop} {A : Nat → Int32} {u : St2} {m : Int32} (ht : mr_tr x T A) (h : mr_ok T A u) (H : ∀ r v, r = (if m = 0 then (if mr_in x then (if x = 0 then 0 else 1) else 0) else -10004) → mr_ok T A v → post r v) : wpX_killers post u m := by
  rcases ht with ⟨c, e⟩ | ⟨c, e, hA⟩
  · subst e
    exact mr_kil0 h (fun d v hv => H _ v ((if_pos d).trans (if_neg c)).symm hv) (fun d v hv => H _ v (if_neg d).symm hv)
  · subst e
    exact mr_kil1 c hA h (fun d f v hv => H _ v ((if_pos d).trans ((if_pos c).trans (if_pos f))).symm hv) (fun d f v hv => H _ v ((if_pos d).trans ((if_pos c).trans (if_neg f))).symm hv) (fun d v hv => H _ v (if_neg d).symm hv)
theorem mr_init {post : St2 → Prop} (H : ∀ v, mr_ok 0 (fun _ => 0) v → post v) : wpX_init post 13 258 (0, 0, 0, 0, 0, 0, 0, 0, 0, 0, 0, 0) :=
  ⟨by omega, by omega, by omega, by omega, by omega, by omega, by omega, by omega, by omega, by omega, by omega, by omega, by omega, by omega, by omega, by omega, by omega, by omega, by omega, by omega, by omega, by omega, by omega, by omega, by omega, by omega, nm_e (H _ ⟨rfl, rfl, rfl, pk_us, Or.inl rfl⟩)⟩
theorem mr_lawOf {post : Int32 → St0 → Prop} {p0 p1 p2 p3 p4 : Int32} (H : post 1 ()) : wpL_lawOf post 14 283 () p0 p1 p2 p3 p4 := by
  refine ⟨by omega, by omega, 13, 258, by omega, by omega, mr_init (fun v0 k0 => ?_)⟩
  obtain ⟨sz, tr, rd, mu, pl, dn, hg, inp, tp, ch, co, cn, b1, b2, b3, b4, b5, b6, b7, b8, b9, b10, b11, b12, b13⟩ := v0
  refine mr_outcome' k0 (fun r6 v1 e6 k1 => ?_)
  obtain ⟨sz, tr, rd, mu, pl, dn, hg, inp, tp, ch, co, cn, b1, b2, b3, b4, b5, b6, b7, b8, b9, b10, b11, b12, b13⟩ := v1
  refine mr_outcomeOf' k1 (fun r7 v2 e7 k2 => ?_)
  obtain ⟨sz, tr, rd, mu, pl, dn, hg, inp, tp, ch, co, cn, b1, b2, b3, b4, b5, b6, b7, b8, b9, b10, b11, b12, b13⟩ := v2
  refine mr_trial' k2 (fun r8 T A v3 e8 ht k3 => ?_)
  obtain ⟨sz, tr, rd, mu, pl, dn, hg, inp, tp, ch, co, cn, b1, b2, b3, b4, b5, b6, b7, b8, b9, b10, b11, b12, b13⟩ := v3
  refine mr_killers' ht k3 (fun r9 v4 e9 k4 => ?_)
  obtain ⟨sz, tr, rd, mu, pl, dn, hg, inp, tp, ch, co, cn, b1, b2, b3, b4, b5, b6, b7, b8, b9, b10, b11, b12, b13⟩ := v4
  refine mr_killer' k4 (fun r10 v5 e10 k5 => ?_)
  obtain ⟨sz, tr, rd, mu, pl, dn, hg, inp, tp, ch, co, cn, b1, b2, b3, b4, b5, b6, b7, b8, b9, b10, b11, b12, b13⟩ := v5
  refine mr_append' k5 (fun r11 v6 f1 f2 => ?_)
  obtain ⟨sz, tr, rd, mu, pl, dn, hg, inp, tp, ch, co, cn, b1, b2, b3, b4, b5, b6, b7, b8, b9, b10, b11, b12, b13⟩ := v6
  exact mr_lend H e6 e7 e8 e9 e10 f1 f2
theorem mr_cell {post : Int32 → Prop} {L : Nat} {xs : Nat → Int32} {p : Int32} (j : Nat) (hp : p = nI j) (hj : j < 5) (hL : L ≤ 5) (H : ∀ r, post r) : wpL_cellAt post L xs () p := by
  subst hp
  exact br_c (fun _ => H _) (fun z => ⟨vp_in_nI (Nat.lt_of_not_le (fun w => z (nI_le w (by omega)))) (by omega), H _⟩)
theorem i_vc (xs : Nat → Int32) (L : Nat) (hL : L ≤ 5) : wpL_law (fun r => r = 1) L xs :=
  mr_cell 0 rfl (by omega) hL (fun r1 => mr_cell 1 rfl (by omega) hL (fun r2 => mr_cell 2 rfl (by omega) hL (fun r3 => mr_cell 3 rfl (by omega) hL (fun r4 => mr_cell 4 rfl (by omega) hL (fun r5 => ⟨14, 283, by omega, by omega, mr_lawOf rfl⟩)))))
end
end
