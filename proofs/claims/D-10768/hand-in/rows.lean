section
/-- an answer r to an argument p: -1 where p lies outside 0..M, else v -/
def pl_is (p M v r : Int32) : Prop := (p < 0 → r = -1) ∧ (¬ p < 0 → ¬ p ≤ M → r = -1) ∧ (¬ p < 0 → p ≤ M → r = v)
theorem pl_neg {p M v : Int32} (h : p < 0) : pl_is p M v (-1) := ⟨fun _ => rfl, fun z => absurd h z, fun z => absurd h z⟩
theorem pl_big {p M v : Int32} (h : ¬ p < 0) (h2 : ¬ p ≤ M) : pl_is p M v (-1) := ⟨fun z => absurd z h, fun _ _ => rfl, fun _ z => absurd z h2⟩
theorem pl_mid {p M v : Int32} (h : ¬ p < 0) (h2 : p ≤ M) : pl_is p M v v := ⟨fun z => absurd z h, fun _ z => absurd h2 z, fun _ _ => rfl⟩
theorem pl_x4 (s k : Nat) : nI s * 4 + nI k = nI (s * 4 + k) := by
  rw [← nI_add, ← pk_mul]
  rfl
theorem pl_04 (k : Nat) : (0 : Int32) * 4 + nI k = nI k := by
  have h := pl_x4 0 k
  rw [Nat.zero_mul, Nat.zero_add] at h
  exact h
theorem pl_le3 {x : Int32} (h : ¬ x < 0) (h2 : x ≤ 3) : ∃ k : Nat, k ≤ 3 ∧ x = nI k := nI_of2 (M := 3) (n := 3) (by decide) h h2
/-- cellAt: some int -/
theorem pl_cell {post : Int32 → Prop} {L : Nat} {xs : Nat → Int32} {p1 : Int32} (k : Nat) (hL : L ≤ 4) (hk : k ≤ 3) (hp : p1 = nI k) (H : ∀ r, post r) : wpL_cellAt post L xs () p1 :=
  pk_le L k (fun _ => H _) (fun z => ⟨pk_in k L z hp, H _⟩) rfl hp
theorem pl_step {post : Int64 → Prop} {x : Int64} {p1 : Int32} {k : Nat} {fh fm fe fj lg : Int32} {fn : Int64} {a1 a2 a4 a6 a8 : Nat → Int32} {a3 a5 a7 a9 : Nat → Int64} (hk : k ≤ 3) (hx : x = 1) (hp : p1 = nI k) (h7 : ∀ j, a7 j = 0) (H : post 0) :
    wpX_step post (fh, fm, fe, fj, 1, fn, lg, a1, a2, a3, a4, a5, a6, a7, a8, a9) x p1 := by
  subst hx hp
  exact ⟨0 + 1 + 1, br_f (by decide) (br_t (by decide) ⟨pk_in k 256 (by omega) (pl_04 k), nm_r (e' := 0) (by rw [h7]; decide) (nm_r (e' := 1) (by decide) (br_t (by decide) H))⟩)⟩
theorem pl_feed {post : Int32 → St2 → Prop} {p0 : Int32} {fh fm fe fj : Int32} {fn : Int64} {a1 a2 a4 a6 a8 : Nat → Int32} {a3 a5 a7 a9 : Nat → Int64} (h7 : ∀ j, a7 j = 0) (h9 : a9 0 = 1)
    (H : ∀ r, pl_is p0 3 (-4) r → post r (fh, fm, fe, fj, 1, fn, 0, a1, a2, a3, a4, a5, a6, a7, a8, a9)) :
    wpX_feed post (fh, fm, fe, fj, 1, fn, 0, a1, a2, a3, a4, a5, a6, a7, a8, a9) p0 := by
  refine br_c (fun h => H _ (pl_neg h)) (fun h => br_c (fun h2 => br_f (by decide) ⟨pk_in 0 8 (by omega), ?_⟩) (fun h2 => H _ (pl_big h h2)))
  obtain ⟨k, hk, e⟩ := pl_le3 h h2
  exact pl_step hk h9 e h7 (br_t rfl (H _ (pl_mid h h2)))
theorem pl_rem {post : Int32 → Prop} {p0 : Int32} {fh fm fe fj fs : Int32} {a1 a2 a4 a6 a8 : Nat → Int32} {a3 a5 a7 a9 : Nat → Int64} (h9 : a9 0 = 1) (H : ∀ r, pl_is p0 15 0 r → post r) :
    wpX_remaining post (fh, fm, fe, fj, fs, 1, 0, a1, a2, a3, a4, a5, a6, a7, a8, a9) p0 := by
  have h9' : a9 (0 : Int32).toNatClampNeg = 1 := h9
  refine br_c (fun h => H _ (pl_neg h)) (fun h => br_c (fun h2 => ⟨pk_in 0 8 (by omega), ⟨0 + 1, br_f (by decide) (br_f ?_ (H _ (pl_mid h h2)))⟩⟩) (fun h2 => H _ (pl_big h h2)))
  rw [h9']
  decide
theorem pl_at {post : Int32 → Prop} {p0 : Int32} {fh fm fe fj fs : Int32} {fn : Int64} {a1 a2 a4 a6 a8 : Nat → Int32} {a3 a5 a7 a9 : Nat → Int64} (H : post (-4)) : wpX_at post (fh, fm, fe, fj, fs, fn, 0, a1, a2, a3, a4, a5, a6, a7, a8, a9) p0 :=
  br_c (fun _ => H) (fun h => br_f h H)
theorem pl_undo {post : Int32 → St2 → Prop} {fh fm fe fj fs : Int32} {fn : Int64} {a1 a2 a4 a6 a8 : Nat → Int32} {a3 a5 a7 a9 : Nat → Int64} (H : post (-4) (fh, fm, fe, fj, fs, fn, 0, a1, a2, a3, a4, a5, a6, a7, a8, a9)) : wpX_undo post (fh, fm, fe, fj, fs, fn, 0, a1, a2, a3, a4, a5, a6, a7, a8, a9) :=
  br_t rfl H
theorem pl_define {post : Int32 → St2 → Prop} {fm fe fj fs lg : Int32} {fn : Int64} {a1 a2 a4 a6 a8 : Nat → Int32} {a3 a5 a7 a9 : Nat → Int64} (H : post (-3) (0, fm, fe, fj, fs, fn, lg, a1, a2, a3, a4, a5, a6, a7, a8, a9)) : wpX_define post (0, fm, fe, fj, fs, fn, lg, a1, a2, a3, a4, a5, a6, a7, a8, a9) :=
  br_f (by decide) H
theorem pl_clear {post : St2 → Prop} {p0 : Int32} (x : Nat) {fh fm fe fj fs lg : Int32} {fn : Int64} {a1 a2 a4 a6 a8 : Nat → Int32} {a3 a5 a7 a9 : Nat → Int64} (hx : x < 80) (hp : p0 = nI x) (H : ∀ a, post (fh, fm, fe, fj, fs, fn, lg, a1, a2, a, a4, a5, a6, a7, a8, a9)) :
    wpX_clearEdges post (fh, fm, fe, fj, fs, fn, lg, a1, a2, a3, a4, a5, a6, a7, a8, a9) p0 := by
  subst hp
  exact pk_loop (fun n i s => wX_clearEdges_2 post (nI x) fh fm fe fj fs fn lg n (nI i) a1 a2 s a4 a5 a6 a7 a8 a9) (fun _ _ => True) 4 0 a3 (by omega) trivial
    (fun n s _ => pk_le 4 4 (fun _ => H s) (fun z => absurd z (by omega)))
    (fun n i s hi _ hw => pk_le 4 i (fun z => absurd z (by omega)) (fun _ => ⟨pk_in (x * 4 + i) 320 (by omega) (pl_x4 x i), nm_e (nm_r (nI_1 i) (hw _ trivial))⟩))
theorem pl_open {post : Int32 → St2 → Prop} {fm fe fj fs lg : Int32} {fn : Int64} {a1 a2 a4 a6 a8 : Nat → Int32} {a3 a5 a7 a9 : Nat → Int64} (H : ∀ b1 b2 b3 b4, post 0 (1, fm, fe, fj, fs, fn, lg, b1, b2, b3, b4, a5, a6, a7, a8, a9)) :
    wpX_open post (0, fm, fe, fj, fs, fn, lg, a1, a2, a3, a4, a5, a6, a7, a8, a9) 2 :=
  br_t (by decide) ⟨pk_in 0 8 (by omega), nm_e ⟨pk_in 0 8 (by omega), nm_e (nm_r (e' := 1) (by decide) ⟨0 + 1 + 1 + 1,
    br_f (by decide) ⟨pk_in 0 80 (by omega), nm_e (pl_clear 0 (by omega) rfl (fun _ => nm_r (e' := 1) (by decide)
      (br_f (by decide) ⟨pk_in 1 80 (by omega), nm_e (pl_clear 1 (by omega) rfl (fun _ => nm_r (e' := 2) (by decide)
        (br_t (by decide) (H _ _ _ _))))⟩)))⟩⟩)⟩⟩
theorem pl_event {post : Int32 → St2 → Prop} {p0 : Int32} {fj fs lg : Int32} {fn : Int64} {a1 a2 a4 a6 a8 : Nat → Int32} {a3 a5 a7 a9 : Nat → Int64} (H : ∀ r h m e b1 b2 b3 b4, pl_is p0 3 1 r → post r (h, m, e, fj, fs, fn, lg, b1, b2, b3, b4, a5, a6, a7, a8, a9)) :
    wpX_event post (0, 0, 0, fj, fs, fn, lg, a1, a2, a3, a4, a5, a6, a7, a8, a9) p0 := by
  refine br_c (fun h => H _ _ _ _ _ _ _ _ (pl_neg h)) (fun h => br_c (fun h2 => br_f (by decide) (br_f (by decide) (br_f (by decide) (pl_open (fun b1 b2 b3 b4 => ?_))))) (fun h2 => H _ _ _ _ _ _ _ _ (pl_big h h2)))
  obtain ⟨k, hk, e⟩ := pl_le3 h h2
  exact ⟨pk_in k 320 (by omega) (by rw [e]; exact pl_04 k), nm_e ⟨pk_in 1 80 (by omega), nm_e (nm_e (nm_e (H _ _ _ _ _ _ _ _ (pl_mid h h2))))⟩⟩
theorem pl_init {post : St2 → Prop} (H : post (0, 0, 0, 0, 1, 1, 0, (fun _ => 0), (fun _ => 0), (fun _ => 0), (fun _ => 0), (fun _ => 0), (fun _ => 0), (fun _ => 0), (fun _ => 0), vp_updL (fun _ => 0) 0 1)) : wpX_init post 9 1008 (0, 0, 0, 0, 0, 0, 0) :=
  ⟨by omega, by omega, by omega, by omega, by omega, by omega, by omega, by omega, by omega, by omega, by omega, by omega, by omega, by omega, by omega, by omega, by omega, by omega, nm_e H⟩
end
section
/-- the law's checks, from the end -/
theorem pl_132 {post : Int32 → St0 → Prop} {mc ms kc ks : Nat} {z0 z1 : Int32} (h : z1 = z0) (H : post 1 ()) : wL_lawOf_132 post mc ms z0 z1 kc ks := br_t h H
theorem pl_92 {post : Int32 → St0 → Prop} {mc ms kc ks : Nat} {x2 x7 x8 x9 x10 z0 z1 : Int32} (h : z1 = z0) (h7 : x7 = -4) (h8 : x8 = -4) (h9 : x9 = -3) (h10 : pl_is x2 3 1 x10) (H : post 1 ()) : wL_lawOf_92 post mc ms x2 x7 x8 x9 x10 z0 z1 kc ks :=
  br_t h (br_t h7 (br_t h8 (br_t h9 (br_c (fun a => pl_132 (h10.1 a) H) (fun a => br_c (fun b => pl_132 (h10.2.2 a b) H) (fun b => pl_132 (h10.2.1 a b) H))))))
theorem pl_72 {post : Int32 → St0 → Prop} {mc ms kc ks : Nat} {x1 x2 x6 x7 x8 x9 x10 z0 z1 : Int32} (h : z1 = z0) (h6 : pl_is x1 15 0 x6) (h7 : x7 = -4) (h8 : x8 = -4) (h9 : x9 = -3) (h10 : pl_is x2 3 1 x10) (H : post 1 ()) : wL_lawOf_72 post mc ms x1 x2 x6 x7 x8 x9 x10 z0 z1 kc ks :=
  br_t h (br_c (fun a => pl_92 (h6.1 a) h7 h8 h9 h10 H) (fun a => br_c (fun b => pl_92 (h6.2.2 a b) h7 h8 h9 h10 H) (fun b => pl_92 (h6.2.1 a b) h7 h8 h9 h10 H)))
theorem pl_lawOf {post : Int32 → St0 → Prop} {p0 p1 p2 p3 : Int32} (H : post 1 ()) : wpL_lawOf post 10 1024 () p0 p1 p2 p3 :=
  ⟨by omega, by omega, 9, 1008, by omega, by omega, pl_init (pl_feed (fun _ => rfl) rfl (fun _ h5 => pl_rem rfl (fun _ h6 => pl_at (pl_undo (pl_define (pl_event (fun _ _ _ _ _ _ _ _ h10 =>
    br_c (fun a => pl_72 (h5.1 a) h6 rfl rfl rfl h10 H) (fun a => br_c (fun b => pl_72 (h5.2.2 a b) h6 rfl rfl rfl h10 H) (fun b => pl_72 (h5.2.1 a b) h6 rfl rfl rfl h10 H))))))))) ⟩
theorem i_vc (xs : Nat → Int32) (L : Nat) (hL : L ≤ 4) : wpL_law (fun r => r = 1) L xs :=
  pl_cell 0 hL (by omega) rfl (fun _ => pl_cell 1 hL (by omega) rfl (fun _ => pl_cell 2 hL (by omega) rfl (fun _ => pl_cell 3 hL (by omega) rfl (fun _ => ⟨10, 1024, by omega, by omega, pl_lawOf rfl⟩))))
end
