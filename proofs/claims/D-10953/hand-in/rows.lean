section
/-- a letter, a digit, another plain sign; plain as the component says it; a sign and plain as the law says it -/
def pm_L (x : Int32) : Prop := ¬ x < 97 ∧ ¬ 122 < x
def pm_D (x : Int32) : Prop := ¬ x < 48 ∧ ¬ 57 < x
def pm_R (x : Int32) : Prop := x = 32 ∨ x = 44 ∨ x = 46 ∨ x = 33 ∨ x = 45
def pm_P (x : Int32) : Prop := pm_L x ∨ pm_D x ∨ pm_R x
def pm_G (x : Int32) : Prop := x = 123 ∨ x = 125 ∨ x = 40 ∨ x = 41 ∨ x = 63 ∨ x = 58 ∨ x = 61
def pm_Q (x : Int32) : Prop := pm_P x ∨ x = 35
theorem pm_GQ {x : Int32} (h : pm_G x) : ¬ pm_Q x := by
  unfold pm_G at h
  unfold pm_Q pm_P pm_L pm_D pm_R
  rcases h with h | h | h | h | h | h | h <;> subst h <;> decide
theorem pm_C (x : Int32) : ((x.toUInt32 % 65536).toInt32.toUInt32 % 65536).toInt32 = (x.toUInt32 % 65536).toInt32 := by
  have h : x.toBitVec.toNat % 65536 < 65536 := Nat.mod_lt _ (by decide)
  rw [pk_char x, pk_char (nI (x.toBitVec.toNat % 65536)), pk_tn (by omega), Nat.mod_eq_of_lt h]
theorem pm_z {x : Int32} (h : ¬ x < 0) (k : x < 1) : x = 0 := by
  obtain ⟨j, hj, rfl⟩ := nI_of h
  have q : j < 1 := (nI_ltI hj (by decide)).mp k
  have e : j = 0 := by omega
  subst e
  rfl
theorem pm_isLetter {post : Int32 → Prop} {u : St2} {c : Int32} (ht : pm_L c → post 1) (hf : ¬ pm_L c → post 0) : wpX_isLetter post u c := by
  obtain ⟨rs, tl, cp, sd, ns, ce, cc, bc, pt, oc, ab, ol, ov, lk, cs, a1, a2, a3, a4, a5, a6, a7, a8, a9, a10, a11, a12, a13, a14, a15, a16⟩ := u
  unfold wpX_isLetter
  exact br_c (fun h => hf (fun k => k.1 h)) (fun h => br_c (fun k => hf (fun z => z.2 k)) (fun k => ht ⟨h, k⟩))
theorem pm_isDigit {post : Int32 → Prop} {u : St2} {c : Int32} (ht : pm_D c → post 1) (hf : ¬ pm_D c → post 0) : wpX_isDigit post u c := by
  obtain ⟨rs, tl, cp, sd, ns, ce, cc, bc, pt, oc, ab, ol, ov, lk, cs, a1, a2, a3, a4, a5, a6, a7, a8, a9, a10, a11, a12, a13, a14, a15, a16⟩ := u
  unfold wpX_isDigit
  exact br_c (fun h => hf (fun k => k.1 h)) (fun h => br_c (fun k => hf (fun z => z.2 k)) (fun k => ht ⟨h, k⟩))
theorem pm_isPlain {post : Int32 → Prop} {u : St2} {c : Int32} (ht : pm_P c → post 1) (hf : ¬ pm_P c → post 0) : wpX_isPlain post u c := by
  obtain ⟨rs, tl, cp, sd, ns, ce, cc, bc, pt, oc, ab, ol, ov, lk, cs, a1, a2, a3, a4, a5, a6, a7, a8, a9, a10, a11, a12, a13, a14, a15, a16⟩ := u
  unfold wpX_isPlain
  refine pm_isLetter (fun hl => br_f (by decide) (ht (Or.inl hl))) (fun hl => br_t rfl (pm_isDigit (fun hd => br_f (by decide) (ht (Or.inr (Or.inl hd)))) (fun hd => br_t rfl ?_)))
  have r : pm_R c → post 1 := fun k => ht (Or.inr (Or.inr k))
  exact br_c (fun e => r (Or.inl e)) (fun n1 => br_c (fun e => r (Or.inr (Or.inl e))) (fun n2 => br_c (fun e => r (Or.inr (Or.inr (Or.inl e)))) (fun n3 => br_c (fun e => r (Or.inr (Or.inr (Or.inr (Or.inl e))))) (fun n4 => br_c (fun e => r (Or.inr (Or.inr (Or.inr (Or.inr e))))) (fun n5 => hf (fun p => p.elim hl (fun p => p.elim hd (fun p => p.elim n1 (fun p => p.elim n2 (fun p => p.elim n3 (fun p => p.elim n4 n5)))))))))))
theorem pm_isSign {post : Int32 → Prop} {u : St2} {c : Int32} (ht : c = 35 ∨ pm_G c → post 1) (hf : ¬ (c = 35 ∨ pm_G c) → post 0) : wpX_isSign post u c := by
  obtain ⟨rs, tl, cp, sd, ns, ce, cc, bc, pt, oc, ab, ol, ov, lk, cs, a1, a2, a3, a4, a5, a6, a7, a8, a9, a10, a11, a12, a13, a14, a15, a16⟩ := u
  unfold wpX_isSign
  have r : pm_G c → post 1 := fun k => ht (Or.inr k)
  exact br_c (fun e => ht (Or.inl e)) (fun n0 => br_c (fun e => r (Or.inl e)) (fun n1 => br_c (fun e => r (Or.inr (Or.inl e))) (fun n2 => br_c (fun e => r (Or.inr (Or.inr (Or.inl e)))) (fun n3 => br_c (fun e => r (Or.inr (Or.inr (Or.inr (Or.inl e))))) (fun n4 => br_c (fun e => r (Or.inr (Or.inr (Or.inr (Or.inr (Or.inl e)))))) (fun n5 => br_c (fun e => r (Or.inr (Or.inr (Or.inr (Or.inr (Or.inr (Or.inl e))))))) (fun n6 => br_c (fun e => r (Or.inr (Or.inr (Or.inr (Or.inr (Or.inr (Or.inr e))))))) (fun n7 => hf (fun p => p.elim n0 (fun p => p.elim n1 (fun p => p.elim n2 (fun p => p.elim n3 (fun p => p.elim n4 (fun p => p.elim n5 (fun p => p.elim n6 n7)))))))))))))))
theorem pm_init {post : St2 → Prop} {p0 : Int32} (h : ∀ rs : Int32, post (rs, 0, 0, 0, 0, 0, 0, 0, 0, 0, 0, 0, 0, 0, 0, fun _ => 0, fun _ => 0, fun _ => 0, fun _ => 0, fun _ => 0, fun _ => 0, fun _ => 0, fun _ => 0, fun _ => 0, fun _ => 0, fun _ => 0, fun _ => 0, fun _ => 0, fun _ => 0, fun _ => 0, fun _ => 0)) : wpX_init post 16 697 (0, 0, 0, 0, 0, 0, 0, 0, 0, 0, 0, 0, 0, 0, 0) p0 := by
  unfold wpX_init
  refine ⟨by decide, by decide, by decide, by decide, by decide, by decide, by decide, by decide, by decide, by decide, by decide, by decide, by decide, by decide, by decide, by decide, by decide, by decide, by decide, by decide, by decide, by decide, by decide, by decide, by decide, by decide, by decide, by decide, by decide, by decide, by decide, by decide, ?_⟩
  exact br_c (fun _ => br_c (fun _ => h p0) (fun _ => h 2)) (fun _ => h 0)
theorem pm_set {post : Int32 → St2 → Prop} {p0 p1 : Int32} {rs tl cp sd ns ce cc bc pt oc ab ol ov lk cs : Int32} {a1 a2 a3 a4 a5 a6 a7 a8 a9 a10 a11 a12 a13 a14 a15 a16 : Nat → Int32} (hn : p0 < 0 → post 0 (rs, tl, cp, sd, ns, ce, cc, bc, pt, oc, ab, ol, ov, lk, cs, a1, a2, a3, a4, a5, a6, a7, a8, a9, a10, a11, a12, a13, a14, a15, a16)) (h3 : ¬ p0 < 0 → 3 < p0 → post 0 (rs, tl, cp, sd, ns, ce, cc, bc, pt, oc, ab, ol, ov, lk, cs, a1, a2, a3, a4, a5, a6, a7, a8, a9, a10, a11, a12, a13, a14, a15, a16)) (hy : ¬ p0 < 0 → ¬ 3 < p0 → ∀ a : Nat → Int32, post 1 (rs, tl, cp, sd, ns, ce, cc, bc, pt, oc, ab, ol, ov, lk, cs, a1, a, a3, a4, a5, a6, a7, a8, a9, a10, a11, a12, a13, a14, a15, a16)) : wpX_set post (rs, tl, cp, sd, ns, ce, cc, bc, pt, oc, ab, ol, ov, lk, cs, a1, a2, a3, a4, a5, a6, a7, a8, a9, a10, a11, a12, a13, a14, a15, a16) p0 p1 := by
  unfold wpX_set
  refine br_c hn (fun h => br_c (fun k => ?_) (fun k => h3 h (Int32.not_le.mp k)))
  refine ⟨?_, nm_e (hy h (Int32.not_lt.mpr k) _)⟩
  obtain ⟨j, hj, e⟩ := nI_of2 (M := 3) (n := 3) (by decide) h k
  exact pk_in j 4 (by omega) e
theorem pm_type {post : Int32 → St2 → Prop} {c : Int32} {rs cp sd ns ce cc bc pt oc ab ol ov lk cs : Int32} {a1 a2 a3 a4 a5 a6 a7 a8 a9 a10 a11 a12 a13 a14 a15 a16 : Nat → Int32} (hv : vp_nar .char c = c) (hb : ¬ pm_Q c → ¬ pm_G c → post (-2) (rs, 0, cp, sd, ns, ce, cc, bc, pt, oc, ab, ol, ov, lk, cs, a1, a2, a3, a4, a5, a6, a7, a8, a9, a10, a11, a12, a13, a14, a15, a16)) (hg : pm_Q c ∨ pm_G c → post 1 (rs, 1, 0, sd, ns, ce, cc, bc, pt, oc, ab, ol, ov, lk, cs, upd a1 0 c, a2, a3, a4, a5, a6, a7, a8, a9, a10, a11, a12, a13, a14, a15, a16)) : wpX_type post (rs, 0, cp, sd, ns, ce, cc, bc, pt, oc, ab, ol, ov, lk, cs, a1, a2, a3, a4, a5, a6, a7, a8, a9, a10, a11, a12, a13, a14, a15, a16) c := by
  have X : pm_Q c ∨ pm_G c → wX_type_30 post c rs 0 cp sd ns ce cc bc pt oc ab ol ov lk cs a1 a2 a3 a4 a5 a6 a7 a8 a9 a10 a11 a12 a13 a14 a15 a16 := fun h => ⟨pk_in 0 96 (by decide), nm_r (e' := upd a1 0 c) (by rw [hv, sb_cl0]) (nm_r (e' := 1) (by decide) (hg h))⟩
  unfold wpX_type
  exact br_t (by decide) (pm_isPlain (fun h => br_f (by decide) (X (Or.inl (Or.inl h)))) (fun n => br_t rfl (pm_isSign (fun h => br_f (by decide) (X (h.elim (fun e => Or.inl (Or.inr e)) Or.inr))) (fun m => br_t rfl (hb (fun q => q.elim n (fun e => m (Or.inl e))) (fun g => m (Or.inr g)))))))
end
section
theorem pm_write {post : St2 → Prop} {rs tl cp sd ns cc bc pt oc ab ol ov lk cs : Int32} {a1 a2 a3 a4 a5 a6 a7 a8 a9 a10 a11 a12 a13 a14 a15 a16 : Nat → Int32} {p0 p1 v w : Int32} (hv : p0.toInt8.toInt32 = v) (hw : (p1.toUInt32 % 65536).toInt32 = w) (hp : post (rs, tl, cp, sd, ns, 1, cc, bc, pt, oc, ab, ol, ov, lk, cs, a1, a2, upd a3 0 v, upd a4 0 w, a5, a6, a7, a8, a9, a10, a11, a12, a13, a14, a15, a16)) : wpX_write post (rs, tl, cp, sd, ns, 0, cc, bc, pt, oc, ab, ol, ov, lk, cs, a1, a2, a3, a4, a5, a6, a7, a8, a9, a10, a11, a12, a13, a14, a15, a16) p0 p1 := by
  unfold wpX_write
  exact ⟨pk_in 0 100 (by decide), nm_r (e' := upd a3 0 v) (by rw [hv, sb_cl0]) ⟨pk_in 0 100 (by decide), nm_r (e' := upd a4 0 w) (by rw [hw, sb_cl0]) (nm_r (e' := 1) (by decide) hp)⟩⟩
theorem pm_put {post : St2 → Prop} {rs tl cp sd ns ce cc bc pt oc ab ov lk cs : Int32} {a1 a2 a3 a4 a5 a6 a7 a8 a9 a10 a11 a12 a13 a14 a15 a16 : Nat → Int32} {c : Int32} (hv : vp_nar .char c = c) (hp : post (rs, tl, cp, sd, ns, ce, cc, bc, pt, oc, ab, 1, ov, lk, cs, a1, a2, a3, a4, a5, a6, a7, a8, a9, a10, a11, a12, a13, a14, upd a15 0 c, a16)) : wpX_put post (rs, tl, cp, sd, ns, ce, cc, bc, pt, oc, ab, 0, ov, lk, cs, a1, a2, a3, a4, a5, a6, a7, a8, a9, a10, a11, a12, a13, a14, a15, a16) c := by
  unfold wpX_put
  exact br_f (by decide) ⟨pk_in 0 120 (by decide), nm_r (e' := upd a15 0 c) (by rw [hv, sb_cl0]) (nm_r (e' := 1) (by decide) hp)⟩
theorem pm_next {post : Int32 → Prop} {rs tl cp sd ns ce cc bc pt oc ab ol ov lk cs : Int32} {a1 a2 a3 a4 a5 a6 a7 a8 a9 a10 a11 a12 a13 a14 a15 a16 : Nat → Int32} {p0 : Int32} (h : tl ≤ pt + p0) (hp : post 0) : wpX_next post (rs, tl, cp, sd, ns, ce, cc, bc, pt, oc, ab, ol, ov, lk, cs, a1, a2, a3, a4, a5, a6, a7, a8, a9, a10, a11, a12, a13, a14, a15, a16) p0 := by
  unfold wpX_next
  exact br_t h hp
theorem pm_brace {post : Int32 → St2 → Prop} {rs cp sd ns ce cc bc ab ol ov lk cs : Int32} {a1 a2 a3 a4 a5 a6 a7 a8 a9 a10 a11 a12 a13 a14 a15 a16 : Nat → Int32} (hp : post 0 (rs, 1, cp, sd, ns, ce, cc, bc, 0, 0, ab, ol, ov, lk, cs, a1, a2, a3, a4, a5, a6, a7, a8, a9, a10, a11, a12, a13, a14, a15, a16)) : wpX_readBrace post (rs, 1, cp, sd, ns, ce, cc, bc, 0, 0, ab, ol, ov, lk, cs, a1, a2, a3, a4, a5, a6, a7, a8, a9, a10, a11, a12, a13, a14, a15, a16) := by
  unfold wpX_readBrace
  exact pm_next (by decide) (nm_r (e' := -48) (by decide) (pm_next (by decide) (br_f (by decide) (br_t (by decide) hp))))
/-- the one character is plain: one operation is written -/
theorem pm_rpA {post : Int32 → St2 → Prop} {rs tl cp sd ns cc bc ab ol ov lk cs : Int32} {a1 a2 a3 a4 a5 a6 a7 a8 a9 a10 a11 a12 a13 a14 a15 a16 : Nat → Int32} {c : Int32} (h1 : a1 0 = c) (h14 : a14 0 = -1) (hc : pm_Q c) (hm : (c.toUInt32 % 65536).toInt32 = c) (hp : post 1 (rs, tl, cp, sd, ns, 1, cc, bc, 1, 0, ab, ol, ov, lk, cs, a1, a2, upd a3 0 0, upd a4 0 c, a5, a6, a7, a8, a9, a10, a11, a12, a13, a14, a15, a16)) : wpX_readPiece post (rs, tl, cp, sd, ns, 0, cc, bc, 0, 0, ab, ol, ov, lk, cs, a1, a2, a3, a4, a5, a6, a7, a8, a9, a10, a11, a12, a13, a14, a15, a16) := by
  have X : wX_readPiece_109 post c rs tl cp sd ns 0 cc bc 0 0 ab ol ov lk cs a1 a2 a3 a4 a5 a6 a7 a8 a9 a10 a11 a12 a13 a14 a15 a16 := by
    unfold wX_readPiece_109
    exact pm_write (v := 0) (w := c) (by decide) hm (nm_r (e' := 1) (by decide) hp)
  have n1 : ¬ c = 123 := fun e => pm_GQ (Or.inl e) hc
  have n2 : ¬ c = 41 := fun e => pm_GQ (Or.inr (Or.inr (Or.inr (Or.inl e)))) hc
  have e1 : a1 (0 : Int32).toNatClampNeg = c := by rw [sb_cl0]; exact h1
  have e14 : a14 (0 : Int32).toNatClampNeg < 0 := by rw [sb_cl0, h14]; decide
  unfold wpX_readPiece
  refine ⟨pk_in 0 96 (by decide), nm_r (e' := c) e1 (br_f n1 (br_f n2 ?_))⟩
  by_cases h : c = 35
  · exact br_t h ⟨pk_in 0 6 (by decide), br_t e14 (br_t h X)⟩
  · exact br_f h (br_f h (pm_isPlain (fun _ => br_f (by decide) X) (fun n => absurd hc (fun q => q.elim n h))))
/-- the one character is a sign: the piece isn't sound -/
theorem pm_rpB {post : Int32 → St2 → Prop} {rs cp sd ns ce cc bc ab ol ov lk cs : Int32} {a1 a2 a3 a4 a5 a6 a7 a8 a9 a10 a11 a12 a13 a14 a15 a16 : Nat → Int32} {c : Int32} (h1 : a1 0 = c) (hc : pm_G c) (hp : post 0 (rs, 1, cp, sd, ns, ce, cc, bc, 0, 0, ab, ol, ov, lk, cs, a1, a2, a3, a4, a5, a6, a7, a8, a9, a10, a11, a12, a13, a14, a15, a16)) : wpX_readPiece post (rs, 1, cp, sd, ns, ce, cc, bc, 0, 0, ab, ol, ov, lk, cs, a1, a2, a3, a4, a5, a6, a7, a8, a9, a10, a11, a12, a13, a14, a15, a16) := by
  have e1 : a1 (0 : Int32).toNatClampNeg = c := by rw [sb_cl0]; exact h1
  have n5 : ¬ c = 35 := fun e => pm_GQ hc (Or.inr e)
  unfold wpX_readPiece
  refine ⟨pk_in 0 96 (by decide), nm_r (e' := c) e1 (br_c (fun h => ?_) (fun h => br_c (fun k => br_t rfl hp) (fun k => ?_)))⟩
  · exact pm_brace ⟨rfl, hp⟩
  · exact br_f n5 (br_f n5 (pm_isPlain (fun p => absurd (Or.inl p) (pm_GQ hc)) (fun n => br_t rfl hp)))
theorem pm_cmA {post : St2 → Prop} {rs sd ns ce cc bc pt oc ab ol ov lk cs : Int32} {a1 a2 a3 a4 a5 a6 a7 a8 a9 a10 a11 a12 a13 a14 a15 a16 : Nat → Int32} {c : Int32} (h1 : a1 0 = c) (hc : pm_Q c) (hm : (c.toUInt32 % 65536).toInt32 = c) (hp : post (rs, 1, 1, 1, 0, 1, 0, 0, 1, 0, 0, ol, ov, lk, cs, a1, a2, upd a3 0 0, upd a4 0 c, a5, a6, a7, a8, a9, a10, a11, a12, a13, upd a14 0 (-1), a15, a16)) : wpX_compile post (rs, 1, 0, sd, ns, ce, cc, bc, pt, oc, ab, ol, ov, lk, cs, a1, a2, a3, a4, a5, a6, a7, a8, a9, a10, a11, a12, a13, a14, a15, a16) := by
  unfold wpX_compile
  refine br_t rfl (nm_e ⟨0 + 1 + 1, ?_⟩)
  exact br_f (by decide) (br_f (by decide) (br_t rfl (pm_rpA h1 pk_us hc hm (br_f (by decide) (br_t (by decide) (br_f (by decide) (br_t rfl hp)))))))
theorem pm_cmB {post : St2 → Prop} {rs sd ns ce cc bc pt oc ab ol ov lk cs : Int32} {a1 a2 a3 a4 a5 a6 a7 a8 a9 a10 a11 a12 a13 a14 a15 a16 : Nat → Int32} {c : Int32} (h1 : a1 0 = c) (hc : pm_G c) (hp : post (rs, 1, 1, 0, 0, 0, 0, 0, 0, 0, 0, ol, ov, lk, cs, a1, a2, a3, a4, a5, a6, a7, a8, a9, a10, a11, a12, a13, upd a14 0 (-1), a15, a16)) : wpX_compile post (rs, 1, 0, sd, ns, ce, cc, bc, pt, oc, ab, ol, ov, lk, cs, a1, a2, a3, a4, a5, a6, a7, a8, a9, a10, a11, a12, a13, a14, a15, a16) := by
  unfold wpX_compile
  refine br_t rfl (nm_e ⟨0 + 1 + 1, ?_⟩)
  exact br_f (by decide) (br_f (by decide) (br_t rfl (pm_rpB h1 hc (br_t rfl (br_t rfl hp)))))
theorem pm_cmC {post : St2 → Prop} {rs sd ns ce cc bc pt oc ab ol ov lk cs : Int32} {a1 a2 a3 a4 a5 a6 a7 a8 a9 a10 a11 a12 a13 a14 a15 a16 : Nat → Int32} (hp : post (rs, 0, 1, 1, 0, 0, 0, 0, 0, 0, 0, ol, ov, lk, cs, a1, a2, a3, a4, a5, a6, a7, a8, a9, a10, a11, a12, a13, upd a14 0 (-1), a15, a16)) : wpX_compile post (rs, 0, 0, sd, ns, ce, cc, bc, pt, oc, ab, ol, ov, lk, cs, a1, a2, a3, a4, a5, a6, a7, a8, a9, a10, a11, a12, a13, a14, a15, a16) := by
  unfold wpX_compile
  refine br_t rfl (nm_e ⟨0 + 1, ?_⟩)
  exact br_f (by decide) (br_t (by decide) (br_f (by decide) (br_t rfl hp)))
theorem pm_exA {post : St2 → Prop} {rs tl cp sd ns cc bc pt oc ab ol ov lk cs : Int32} {a1 a2 a3 a4 a5 a6 a7 a8 a9 a10 a11 a12 a13 a14 a15 a16 : Nat → Int32} {c : Int32} (h3 : a3 0 = 0) (h4 : a4 0 = c) (hm : (c.toUInt32 % 65536).toInt32 = c) (hv : vp_nar .char c = c) (hp : post (rs, tl, cp, sd, ns, 1, cc, bc, pt, oc, ab, 1, 0, 0, cs, a1, a2, a3, a4, a5, a6, a7, a8, a9, a10, a11, a12, a13, a14, upd a15 0 c, a16)) : wpX_execute post (rs, tl, cp, sd, ns, 1, cc, bc, pt, oc, ab, ol, ov, lk, cs, a1, a2, a3, a4, a5, a6, a7, a8, a9, a10, a11, a12, a13, a14, a15, a16) := by
  have e3 : a3 (0 : Int32).toNatClampNeg = 0 := by rw [sb_cl0]; exact h3
  have e4 : a4 (0 : Int32).toNatClampNeg = c := by rw [sb_cl0]; exact h4
  unfold wpX_execute
  refine ⟨0 + 1 + 1, ?_⟩
  refine br_f (by decide) (br_t rfl ⟨pk_in 0 100 (by decide), nm_r (e' := 0) e3 ⟨pk_in 0 100 (by decide), nm_r (e' := c) e4 (nm_r (e' := 1) (by decide) (br_t rfl ?_))⟩⟩)
  rw [hm]
  exact pm_put hv (br_t (by decide) hp)
theorem pm_exC {post : St2 → Prop} {rs tl cp sd ns cc bc pt oc ab ol ov lk cs : Int32} {a1 a2 a3 a4 a5 a6 a7 a8 a9 a10 a11 a12 a13 a14 a15 a16 : Nat → Int32} (hp : post (rs, tl, cp, sd, ns, 0, cc, bc, pt, oc, ab, 0, 0, 0, cs, a1, a2, a3, a4, a5, a6, a7, a8, a9, a10, a11, a12, a13, a14, a15, a16)) : wpX_execute post (rs, tl, cp, sd, ns, 0, cc, bc, pt, oc, ab, ol, ov, lk, cs, a1, a2, a3, a4, a5, a6, a7, a8, a9, a10, a11, a12, a13, a14, a15, a16) := by
  unfold wpX_execute
  exact ⟨0 + 1, br_t (by decide) hp⟩
theorem pm_fmA {post : Int32 → St2 → Prop} {rs sd ns ce cc bc pt oc ab ol ov lk cs : Int32} {a1 a2 a3 a4 a5 a6 a7 a8 a9 a10 a11 a12 a13 a14 a15 a16 : Nat → Int32} {c : Int32} (h1 : a1 0 = c) (hc : pm_Q c) (hm : (c.toUInt32 % 65536).toInt32 = c) (hv : vp_nar .char c = c) (hp : post 1 (rs, 1, 1, 1, 0, 1, 0, 0, 1, 0, 0, 1, 0, 0, 0, a1, a2, upd a3 0 0, upd a4 0 c, a5, a6, a7, a8, a9, a10, a11, a12, a13, upd a14 0 (-1), upd a15 0 c, a16)) : wpX_format post (rs, 1, 0, sd, ns, ce, cc, bc, pt, oc, ab, ol, ov, lk, cs, a1, a2, a3, a4, a5, a6, a7, a8, a9, a10, a11, a12, a13, a14, a15, a16) := by
  unfold wpX_format
  exact pm_cmA h1 hc hm (br_f (by decide) (pm_exA pk_us pk_us hm hv (br_t rfl hp)))
theorem pm_fmB {post : Int32 → St2 → Prop} {rs sd ns ce cc bc pt oc ab ol ov lk cs : Int32} {a1 a2 a3 a4 a5 a6 a7 a8 a9 a10 a11 a12 a13 a14 a15 a16 : Nat → Int32} {c : Int32} (h1 : a1 0 = c) (hc : pm_G c) (hp : post (-3) (rs, 1, 1, 0, 0, 0, 0, 0, 0, 0, 0, ol, ov, lk, cs, a1, a2, a3, a4, a5, a6, a7, a8, a9, a10, a11, a12, a13, upd a14 0 (-1), a15, a16)) : wpX_format post (rs, 1, 0, sd, ns, ce, cc, bc, pt, oc, ab, ol, ov, lk, cs, a1, a2, a3, a4, a5, a6, a7, a8, a9, a10, a11, a12, a13, a14, a15, a16) := by
  unfold wpX_format
  exact pm_cmB h1 hc (br_t rfl hp)
theorem pm_fmC {post : Int32 → St2 → Prop} {rs sd ns ce cc bc pt oc ab ol ov lk cs : Int32} {a1 a2 a3 a4 a5 a6 a7 a8 a9 a10 a11 a12 a13 a14 a15 a16 : Nat → Int32} (hp : post 0 (rs, 0, 1, 1, 0, 0, 0, 0, 0, 0, 0, 0, 0, 0, 0, a1, a2, a3, a4, a5, a6, a7, a8, a9, a10, a11, a12, a13, upd a14 0 (-1), a15, a16)) : wpX_format post (rs, 0, 0, sd, ns, ce, cc, bc, pt, oc, ab, ol, ov, lk, cs, a1, a2, a3, a4, a5, a6, a7, a8, a9, a10, a11, a12, a13, a14, a15, a16) := by
  unfold wpX_format
  exact pm_cmC (br_f (by decide) (pm_exC (br_t rfl hp)))
end
section
theorem pm_253 {post : Int32 → St0 → Prop} {mc ms kc ks : Nat} {x5 x6 z0 z1 : Int32} {rs tl cp sd ns ce cc bc pt oc ab ol ov lk : Int32} {a1 a2 a3 a4 a5 a6 a7 a8 a9 a10 a11 a12 a13 a14 a15 a16 : Nat → Int32} (hp : post 1 ()) (hz : z1 = z0) (ht : x5 = 0 ∧ x6 = 0 ∧ tl = 0 ∨ ¬ (x5 = 0 ∧ x6 = 0) ∧ tl = 1) : wL_lawOf_253 post mc ms x5 x6 z0 z1 kc ks rs tl cp sd ns ce cc bc pt oc ab ol ov lk 0 a1 a2 a3 a4 a5 a6 a7 a8 a9 a10 a11 a12 a13 a14 a15 a16 := by
  unfold wL_lawOf_253
  refine br_t hz ?_
  unfold wpX_rub
  rcases ht with ⟨h5, h6, e⟩ | ⟨hn, e⟩
  · subst e
    exact br_t rfl (br_t h5 (br_t h6 (br_t rfl (br_t rfl hp))))
  · subst e
    refine br_f (by decide) (nm_r (e' := 0) (by decide) ?_)
    exact br_c (fun h5 => br_c (fun h6 => absurd ⟨h5, h6⟩ hn) (fun _ => br_t rfl (br_t rfl hp))) (fun _ => br_t rfl (br_t rfl hp))
theorem pm_226A {post : Int32 → St0 → Prop} {mc ms kc ks : Nat} {x2 x4 : Int32} {rs cp sd ns ce cc bc pt oc ab ov lk : Int32} {a1 a2 a3 a4 a5 a6 a7 a8 a9 a10 a11 a12 a13 a14 a15 a16 : Nat → Int32} (hp : post 1 ()) (h15 : a15 0 = x4) : wL_lawOf_226 post mc ms x2 x4 1 0 1 1 kc ks rs 1 cp sd ns ce cc bc pt oc ab 1 ov lk 0 a1 a2 a3 a4 a5 a6 a7 a8 a9 a10 a11 a12 a13 a14 a15 a16 := by
  have ht : (1 : Int32) = 0 ∧ (0 : Int32) = 0 ∧ (1 : Int32) = 0 ∨ ¬ ((1 : Int32) = 0 ∧ (0 : Int32) = 0) ∧ (1 : Int32) = 1 := by decide
  unfold wL_lawOf_226
  refine br_t rfl ?_
  unfold wpX_charAt
  refine br_c (fun h => ?_) (fun h => br_c (fun k => ?_) (fun k => ?_))
  · refine br_f (by decide) (br_f (fun e => ?_) (pm_253 hp rfl ht))
    subst e
    exact absurd h (by decide)
  · have e : x2 = 0 := pm_z h k
    subst e
    exact ⟨pk_in 0 120 (by decide), br_f (by decide) (br_t rfl (pm_253 hp (by rw [sb_cl0]; exact h15) ht))⟩
  · refine br_f (by decide) (br_f (fun e => ?_) (pm_253 hp rfl ht))
    subst e
    exact absurd (show (0 : Int32) < 1 by decide) k
theorem pm_226N {post : Int32 → St0 → Prop} {mc ms kc ks : Nat} {x2 x4 x6 z0 z1 : Int32} {rs tl cp sd ns ce cc bc pt oc ab ov lk : Int32} {a1 a2 a3 a4 a5 a6 a7 a8 a9 a10 a11 a12 a13 a14 a15 a16 : Nat → Int32} (hp : post 1 ()) (hz : z1 = z0) (ht : (0 : Int32) = 0 ∧ x6 = 0 ∧ tl = 0 ∨ ¬ ((0 : Int32) = 0 ∧ x6 = 0) ∧ tl = 1) : wL_lawOf_226 post mc ms x2 x4 0 x6 z0 z1 kc ks rs tl cp sd ns ce cc bc pt oc ab 0 ov lk 0 a1 a2 a3 a4 a5 a6 a7 a8 a9 a10 a11 a12 a13 a14 a15 a16 := by
  unfold wL_lawOf_226
  refine br_t hz ?_
  unfold wpX_charAt
  exact br_c (fun h => br_t rfl (pm_253 hp rfl ht)) (fun h => br_c (fun k => absurd k h) (fun k => br_t rfl (pm_253 hp rfl ht)))
/-- which of the three kinds c is, and what the law's two words say of it -/
def pm_K (c x5 x6 : Int32) : Prop := (pm_Q c ∧ x5 = 1 ∧ x6 = 0) ∨ (pm_G c ∧ x5 = 0 ∧ x6 = 1) ∨ (¬ pm_Q c ∧ ¬ pm_G c ∧ x5 = 0 ∧ x6 = 0)
theorem pm_168 {post : Int32 → St0 → Prop} {mc ms kc ks : Nat} {x1 x2 c x5 x6 z0 z1 : Int32} {rs sd ns ce cc bc pt oc ab ov lk : Int32} {a1 a2 a3 a4 a5 a6 a7 a8 a9 a10 a11 a12 a13 a14 a15 a16 : Nat → Int32} (hp : post 1 ()) (hc : c = (x1.toUInt32 % 65536).toInt32) (hK : pm_K c x5 x6) (hz : z1 = z0) : wL_lawOf_168 post mc ms x1 x2 c x5 x6 z0 z1 kc ks rs 0 0 sd ns ce cc bc pt oc ab 0 ov lk 0 a1 a2 a3 a4 a5 a6 a7 a8 a9 a10 a11 a12 a13 a14 a15 a16 := by
  have hv : vp_nar .char c = c := by rw [hc]; exact pk_vc x1
  have hm : (c.toUInt32 % 65536).toInt32 = c := by rw [hc]; exact pm_C x1
  unfold wL_lawOf_168
  refine br_t hz ?_
  rw [← hc]
  rcases hK with ⟨h, e5, e6⟩ | ⟨h, e5, e6⟩ | ⟨h, h', e5, e6⟩ <;> subst e5 <;> subst e6
  · refine pm_type hv (fun n => absurd h n) (fun _ => br_f (by decide) (br_t rfl ?_))
    exact pm_fmA pk_us h hm hv (br_t rfl (br_f (by decide) (pm_226A hp pk_us)))
  · refine pm_type hv (fun _ n => absurd h n) (fun _ => br_t rfl (br_f (by decide) (br_t rfl ?_)))
    exact pm_fmB pk_us h (br_f (by decide) (pm_226N hp rfl (by decide)))
  · refine pm_type hv (fun _ _ => br_t rfl (br_t rfl (br_t rfl ?_))) (fun q => absurd q (fun q => q.elim h h'))
    exact pm_fmC (br_t rfl (br_t rfl (pm_226N hp rfl (by decide))))
theorem pm_135 {post : Int32 → St0 → Prop} {x0 x1 x2 x3 c x5 x6 : Int32} (hp : post 1 ()) (hc : c = (x1.toUInt32 % 65536).toInt32) (hK : pm_K c x5 x6) : wL_lawOf_135 post 184 2928 x0 x1 x2 x3 c x5 x6 0 0 := by
  unfold wL_lawOf_135
  refine ⟨by decide, by decide, 16, 697, by decide, by decide, pm_init (fun rs => ?_)⟩
  refine pm_set (fun h => br_t h ?_) (fun h k => br_f h (br_t k ?_)) (fun h k a => br_f h (br_f k ?_))
  · exact pm_168 hp hc hK rfl
  · exact pm_168 hp hc hK rfl
  · exact pm_168 hp hc hK rfl
theorem pm_79 {post : Int32 → St0 → Prop} {x0 x1 x2 x3 c z0 : Int32} (hp : post 1 ()) (hc : c = (x1.toUInt32 % 65536).toInt32) (hq : pm_Q c ∧ z0 = 1 ∨ ¬ pm_Q c ∧ z0 = 0) : wL_lawOf_79 post 184 2928 x0 x1 x2 x3 c z0 0 0 := by
  have S : pm_G c → wL_lawOf_130 post 184 2928 x0 x1 x2 x3 c z0 0 0 := fun g => pm_135 hp hc (hq.elim (fun q => absurd q.1 (pm_GQ g)) (fun q => Or.inr (Or.inl ⟨g, q.2, rfl⟩)))
  have N : ¬ pm_G c → wL_lawOf_135 post 184 2928 x0 x1 x2 x3 c z0 0 0 0 := fun g => pm_135 hp hc (hq.elim (fun q => Or.inl ⟨q.1, q.2, rfl⟩) (fun q => Or.inr (Or.inr ⟨q.1, g, q.2, rfl⟩)))
  unfold wL_lawOf_79
  exact br_c (fun e => S (Or.inl e)) (fun n1 => br_c (fun e => S (Or.inr (Or.inl e))) (fun n2 => br_c (fun e => S (Or.inr (Or.inr (Or.inl e)))) (fun n3 => br_c (fun e => S (Or.inr (Or.inr (Or.inr (Or.inl e))))) (fun n4 => br_c (fun e => S (Or.inr (Or.inr (Or.inr (Or.inr (Or.inl e)))))) (fun n5 => br_c (fun e => S (Or.inr (Or.inr (Or.inr (Or.inr (Or.inr (Or.inl e))))))) (fun n6 => br_c (fun e => S (Or.inr (Or.inr (Or.inr (Or.inr (Or.inr (Or.inr e))))))) (fun n7 => N (fun p => p.elim n1 (fun p => p.elim n2 (fun p => p.elim n3 (fun p => p.elim n4 (fun p => p.elim n5 (fun p => p.elim n6 n7)))))))))))))
theorem pm_lawOf {post : Int32 → St0 → Prop} {x0 x1 x2 x3 : Int32} (hp : post 1 ()) : wpL_lawOf post 184 2928 () x0 x1 x2 x3 := by
  unfold wpL_lawOf
  intro c hc
  have Y : pm_Q c → wL_lawOf_74 post 184 2928 x0 x1 x2 x3 c 0 0 := fun q => pm_79 hp hc (Or.inl ⟨q, rfl⟩)
  have N : ¬ pm_Q c → wL_lawOf_79 post 184 2928 x0 x1 x2 x3 c 0 0 0 := fun q => pm_79 hp hc (Or.inr ⟨q, rfl⟩)
  have R : pm_R c → wL_lawOf_74 post 184 2928 x0 x1 x2 x3 c 0 0 := fun r => Y (Or.inl (Or.inr (Or.inr r)))
  have X32 : ¬ pm_L c → ¬ pm_D c → wL_lawOf_32 post 184 2928 x0 x1 x2 x3 c 0 0 := fun l d => br_c (fun e => R (Or.inl e)) (fun n1 => br_c (fun e => R (Or.inr (Or.inl e))) (fun n2 => br_c (fun e => R (Or.inr (Or.inr (Or.inl e)))) (fun n3 => br_c (fun e => R (Or.inr (Or.inr (Or.inr (Or.inl e))))) (fun n4 => br_c (fun e => R (Or.inr (Or.inr (Or.inr (Or.inr e))))) (fun n5 => br_c (fun e => Y (Or.inr e)) (fun n6 => N (fun q => q.elim (fun p => p.elim l (fun p => p.elim d (fun p => p.elim n1 (fun p => p.elim n2 (fun p => p.elim n3 (fun p => p.elim n4 n5)))))) n6)))))))
  have X18 : ¬ pm_L c → wL_lawOf_18 post 184 2928 x0 x1 x2 x3 c 0 0 := fun l => br_c (fun h => X32 l (fun d => d.1 h)) (fun h => br_c (fun k => Y (Or.inl (Or.inr (Or.inl ⟨h, Int32.not_lt.mpr k⟩)))) (fun k => X32 l (fun d => d.2 (Int32.not_le.mp k))))
  exact br_c (fun h => X18 (fun l => l.1 h)) (fun h => br_c (fun k => Y (Or.inl (Or.inl ⟨h, Int32.not_lt.mpr k⟩))) (fun k => X18 (fun l => l.2 (Int32.not_le.mp k))))
theorem pm_cell {post : Int32 → Prop} {L : Nat} {xs : Nat → Int32} (k : Nat) {x : Int32} (hx : x = nI k) (hk : k < 4) (hL : L ≤ 4) (h : ∀ y : Int32, post y) : wpL_cellAt post L xs () x := by
  unfold wpL_cellAt
  exact pk_le L k (fun _ => h 0) (fun z => ⟨pk_in k L z hx, h _⟩) rfl hx
end
section
theorem i_vc (xs : Nat → Int32) (L : Nat) (hL : L ≤ 4) : wpL_law (fun r => r = 1) L xs := by
  unfold wpL_law
  exact pm_cell 0 rfl (by decide) hL (fun r1 => pm_cell 1 rfl (by decide) hL (fun r2 => pm_cell 2 rfl (by decide) hL (fun r3 => pm_cell 3 rfl (by decide) hL (fun r4 => ⟨184, 2928, by decide, by decide, pm_lawOf rfl⟩))))
end
