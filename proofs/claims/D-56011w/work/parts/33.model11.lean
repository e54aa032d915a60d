/-! THE MODEL: contracts settled, days passed -/
set_option maxRecDepth 100000
/-- all cash -/
def csh (T : List (Nat × Nat)) : Nat := (T.map (·.1)).sum
theorem csh_md : ∀ {T : List (Nat × Nat)} {t : Nat} {f g : Nat → Nat} {c : Nat × Nat}, T[t]? = some c → csh (mdT T t f g) + c.1 = csh T + f c.1
  | [], t, f, g, c, h => by simp at h
  | a :: T, 0, f, g, c, h => by
    simp at h; subst h
    show (f a.1 + csh T) + a.1 = (a.1 + csh T) + f a.1
    omega
  | a :: T, t + 1, f, g, c, h => by
    have ih := csh_md (T := T) (t := t) (f := f) (g := g) (c := c) (by simpa using h)
    show (a.1 + csh (mdT T t f g)) + c.1 = (a.1 + csh T) + f c.1
    omega
theorem csh_le : ∀ {T : List (Nat × Nat)} {t : Nat} {c : Nat × Nat}, T[t]? = some c → c.1 ≤ csh T
  | [], t, c, h => by simp at h
  | a :: T, 0, c, h => by
    simp at h; subst h
    show a.1 ≤ a.1 + csh T
    omega
  | a :: T, t + 1, c, h => by
    have ih := csh_le (T := T) (t := t) (c := c) (by simpa using h)
    show c.1 ≤ a.1 + csh T
    omega
/-- what settling wants -/
def okS (S : SS) : Prop := (∀ c, c ∈ sC S → c.1 < (sT S).length ∧ c.2.1 < (sT S).length) ∧ csh (sT S) < 2 ^ 30 ∧ sN S 5 < 100
theorem caT_le {T : List (Nat × Nat)} {t : Nat} : caT T t ≤ csh T := by
  unfold caT
  cases h : T[t]? with
  | none => exact Nat.zero_le _
  | some c => exact csh_le h
theorem fr_lt {S : SS} {c : CC} (h : c.1 < (sT S).length ∧ c.2.1 < (sT S).length) {L : Nat} : frS L c < (sT S).length ∧ toS L c < (sT S).length := by
  unfold frS toS
  by_cases g : L ≠ 0 ∧ c.2.2.2.1 < L ∧ 0 < c.2.2.1
  · rw [if_pos g, if_pos g]; exact h
  · rw [if_neg g, if_neg g]; exact h.symm
theorem st_csh {S : SS} {k : Nat} {c : CC} (h : c.1 < (sT S).length ∧ c.2.1 < (sT S).length) : csh (sT (stS k c S)) = csh (sT S) := by
  obtain ⟨h1, h2⟩ := fr_lt h (L := sN S 5)
  obtain ⟨a, ha⟩ : ∃ a, (sT S)[frS (sN S 5) c]? = some a := ⟨_, List.getElem?_eq_getElem h1⟩
  have hp : pdS S c ≤ a.1 := by
    have : caT (sT S) (frS (sN S 5) c) = a.1 := by simp only [caT, ha]
    have h3 : pdS S c ≤ caT (sT S) (frS (sN S 5) c) := Nat.min_le_right ..
    omega
  have e1 : csh (mdT (sT S) (frS (sN S 5) c) (· - pdS S c) id) + a.1 = csh (sT S) + (a.1 - pdS S c) := csh_md ha
  have hl : toS (sN S 5) c < (mdT (sT S) (frS (sN S 5) c) (· - pdS S c) id).length := by rw [md_len]; exact h2
  obtain ⟨b, hb⟩ : ∃ b, (mdT (sT S) (frS (sN S 5) c) (· - pdS S c) id)[toS (sN S 5) c]? = some b := ⟨_, List.getElem?_eq_getElem hl⟩
  have e2 : csh (mdT (mdT (sT S) (frS (sN S 5) c) (· - pdS S c) id) (toS (sN S 5) c) (· + pdS S c) id) + b.1 = csh (mdT (sT S) (frS (sN S 5) c) (· - pdS S c) id) + (b.1 + pdS S c) := csh_md hb
  show csh (mdT (mdT (sT S) (frS (sN S 5) c) (· - pdS S c) id) (toS (sN S 5) c) (· + pdS S c) id) = _
  omega
theorem st_ok {S : SS} {k : Nat} {c : CC} (hc : (sC S)[k]? = some c) (h : okS S) : okS (stS k c S) := by
  have h1 := h.1 c (List.mem_of_getElem? hc)
  have hl : (sT (stS k c S)).length = (sT S).length := by
    show (mdT (mdT (sT S) (frS (sN S 5) c) (· - pdS S c) id) (toS (sN S 5) c) (· + pdS S c) id).length = _
    rw [md_len, md_len]
  refine ⟨fun d hd => ?_, by rw [st_csh h1]; exact h.2.1, h.2.2⟩
  rw [hl]
  exact h.1 d (List.mem_of_mem_eraseIdx hd)
theorem gain_ {L p u : Nat} (hL : L < 100) (hp : p < 100) (hu : u < 100) {g : Int32} (hg : g = if L = 0 then 0 else (nI L - nI p) * nI u) (c : CC) (hc : c.2.2.1 = u ∧ c.2.2.2.1 = p) :
    (g ≤ 0 ↔ ¬ (L ≠ 0 ∧ p < L ∧ 0 < u)) ∧ (if 0 ≤ g then g else -g) = nI (owS L c) ∧ owS L c < 10000 := by
  obtain ⟨rfl, rfl⟩ := hc
  have hb : ∀ x y : Nat, x < 100 → y < 100 → x * y < 10000 := fun x y h1 h2 => Nat.lt_of_le_of_lt (Nat.mul_le_mul (Nat.le_of_lt_succ h1) (Nat.le_of_lt_succ h2)) (by decide : 99 * 99 < 10000)
  by_cases h0 : L = 0
  · rw [if_pos h0] at hg
    subst hg
    exact ⟨⟨fun _ q => q.1 h0, fun _ => by decide⟩, by rw [owS, if_pos h0]; decide, by rw [owS, if_pos h0]; decide⟩
  · rw [if_neg h0] at hg
    by_cases h1 : c.2.2.2.1 < L
    · rw [pk_sub (Nat.le_of_lt h1), pk_mul] at hg
      have hz := hb (L - c.2.2.2.1) c.2.2.1 (by omega) hu
      subst hg
      rw [owS, if_neg h0, if_pos h1]
      refine ⟨⟨fun q r => ?_, fun q => ?_⟩, if_pos (nI_pos' (by omega)), hz⟩
      · exact nI_nle (Nat.mul_pos (by omega) r.2.2) (by omega) q
      · have : c.2.2.1 = 0 := Nat.eq_zero_of_not_pos fun z => q ⟨h0, h1, z⟩
        rw [this, Nat.mul_zero]
        decide
    · have hz := hb (c.2.2.2.1 - L) c.2.2.1 (by omega) hu
      rw [← Int32.neg_sub, pk_sub (Nat.le_of_not_lt h1), Int32.neg_mul, pk_mul] at hg
      rw [owS, if_neg h0, if_neg h1]
      subst hg
      have ht : (-nI ((c.2.2.2.1 - L) * c.2.2.1)).toInt = -(((c.2.2.2.1 - L) * c.2.2.1 : Nat) : Int) := by
        have e : -nI ((c.2.2.2.1 - L) * c.2.2.1) = nI 0 - nI ((c.2.2.2.1 - L) * c.2.2.1) := (Int32.zero_sub _).symm
        rw [e, pk_sub_toInt (by decide) (by omega)]
        omega
      have hz0 : (0 : Int32).toInt = 0 := by decide
      refine ⟨⟨fun q r => h1 r.2.1, fun _ => ?_⟩, ?_, hz⟩
      · rw [Int32.le_iff_toInt_le, ht, hz0]; omega
      · by_cases hd : (c.2.2.2.1 - L) * c.2.2.1 = 0
        · rw [hd]; decide
        · rw [if_neg (by rw [Int32.le_iff_toInt_le, ht, hz0]; omega), Int32.neg_neg]
section MODEL
variable {B : Bt} {m : Nat} {ad : Nat → Nat} {sv ch ea fa th pm lm cm p0 s0 iw : Int32} {M A : Nat → Int32} {S : SS} {R : Rs}
theorem c_X3_gainOf (hB : Bs B) {k : Nat} {q : Int32} {c : CC} (hE : EnC M (sC S)) (hc : (sC S)[k]? = some c) : Tr B yX3_gainOf (Cond.code yX3_gainOf cX3_gainOf 4 (some .int)) (rmd 2 0 0) [.ref m, .int (nI k), .int q] (wM m ad sv ch ea fa th pm lm cm p0 s0 iw M) (fun r w => r = some (.int ((q - nI c.2.2.2.1) * nI c.2.2.1)) ∧ w = wM m ad sv ch ea fa th pm lm cm p0 s0 iw M) nox := by
  have hl := hE.2.1
  have hk := (List.getElem?_eq_some_iff.mp hc).1
  obtain ⟨⟨e0, e1, e2, e3, e4⟩, -⟩ := hE.2.2 k c hc
  refine tr_of hB (by decide +kernel) rfl ?_
  intro Γ X Y
  refine g_eq (ls' := [.val (.ref m), .val (.int (nI k)), .val (.int q), .unset]) rfl rfl ?_
  refine g_iload_n X dX3_gainOf_0 rfl rfl ?_
  refine g_callS X dX3_gainOf_1 ms_X3_130 (c_X3_contractAt hB) rfl (by repeat (first | with_reducible exact Pks.nil | (with_reducible refine Pks.pure (by assumption) ?_) | (with_reducible apply Pks.cons; focus ((repeat (first | with_reducible exact Pk.here | with_reducible apply Pk.there)); done)) | (refine Pks.cons Pk.here ?_))) rfl rfl (by decide) (by exact Nat.le_of_ble_eq_true rfl) (by first | decide | omega) (fun r w1 hq => ?_) (fun E q w1 hq => hq.elim)
  obtain ⟨rfl, rfl⟩ := hq
  dsimp only [wM, PoM, List.cons_append, List.nil_append, Option.toList_some, Option.toList_none]
  rw [ic]
  refine is_4_3n X dX3_gainOf_4 rfl rfl ?_
  refine g_iload_n X dX3_gainOf_5 rfl rfl ?_
  refine g_aload_n X dX3_gainOf_6 rfl rfl ?_
  refine g_getf X dX3_gainOf_7 fl_X3_9 (by repeat (first | with_reducible exact Pk.here | with_reducible apply Pk.there)) (by exact rfl) ?_
  refine g_iload_n X dX3_gainOf_10 rfl rfl ?_
  refine g_iconst (v := 3) X dX3_gainOf_11 rfl ?_
  refine g_iadd X dX3_gainOf_12 ?_
  refine g_iald (115 + 5 * k + 3) X dX3_gainOf_13 (by repeat (first | with_reducible exact Pk.here | with_reducible apply Pk.there)) (nIp3 _) (by omega) (by exact e3) ?_
  refine g_isub X dX3_gainOf_14 ?_
  refine g_aload_n X dX3_gainOf_15 rfl rfl ?_
  refine g_getf X dX3_gainOf_16 fl_X3_9 (by repeat (first | with_reducible exact Pk.here | with_reducible apply Pk.there)) (by exact rfl) ?_
  refine g_iload_n X dX3_gainOf_19 rfl rfl ?_
  refine g_iconst (v := 2) X dX3_gainOf_20 rfl ?_
  refine g_iadd X dX3_gainOf_21 ?_
  refine g_iald (115 + 5 * k + 2) X dX3_gainOf_22 (by repeat (first | with_reducible exact Pk.here | with_reducible apply Pk.there)) (nIp2 _) (by omega) (by exact e2) ?_
  refine g_imul X dX3_gainOf_23 ?_
  exact g_iret X Y dX3_gainOf_24 (rfl) (⟨rfl, rfl⟩) (Pks.tail (rest := _) (by repeat (first | with_reducible exact Pks.nil | (with_reducible refine Pks.pure (by assumption) ?_) | (with_reducible apply Pks.cons; focus ((repeat (first | with_reducible exact Pk.here | with_reducible apply Pk.there)); done)) | (refine Pks.cons Pk.here ?_))))
theorem c_X3_settles (hB : Bs B) {k : Nat} {c : CC} (hE : Enc M S) (hS : okS S) (hc : (sC S)[k]? = some c) : Tr B yX3_settles (Cond.code yX3_settles cX3_settles 9 none) (rmd 3 0 0) [.ref m, .int (nI k)] (wM m ad sv ch ea fa th pm lm cm p0 s0 iw M) (fun r w => ∃ M', r = none ∧ w = wM m ad sv ch ea fa th pm lm cm p0 s0 iw M' ∧ Enc M' (stS k c S)) nox := by
  have hl := hE.2.2.2.2.1.2.1
  have hlT := hE.2.2.1.2.1
  have hk := (List.getElem?_eq_some_iff.mp hc).1
  obtain ⟨⟨e0, e1, e2, e3, e4⟩, g0, g1, g2, g3, g4⟩ := hE.2.2.2.2.1.2.2 k c hc
  have hL := hE.1 5 (by omega)
  obtain ⟨z1, z2⟩ := fr_lt (hS.1 c (List.mem_of_getElem? hc)) (L := sN S 5)
  obtain ⟨a, ha⟩ : ∃ a, (sT S)[frS (sN S 5) c]? = some a := ⟨_, List.getElem?_eq_getElem z1⟩
  have hca : caT (sT S) (frS (sN S 5) c) = a.1 := by simp only [caT, ha]
  have hcb := csh_le ha
  have hcs := hS.2.1
  have hpd : pdS S c = min (owS (sN S 5) c) a.1 := by rw [pdS, hca]
  have hM := (hE.2.2.1.2.2 _ a ha).1
  have f1 := ((hE.cs (k := frS (sN S 5) c) (v := pdS S c) (by omega) ha (by rw [hpd]; exact Nat.min_le_right ..)).ca (k := toS (sN S 5) c) (v := pdS S c) (by omega))
  refine tr_of hB (by decide +kernel) rfl ?_
  intro Γ X Y
  refine g_eq (ls' := [.val (.ref m), .val (.int (nI k)), .unset, .unset, .unset, .unset, .unset, .unset, .unset]) rfl rfl ?_
  have L2 : ∀ (M1 : Nat → Int32) (x3 x4 x5 x6 x7 x8 : Slot), LZ x8 → Enc (clC M1 k) (stS k c S) → G B Γ 0 0 (wM m ad sv ch ea fa th pm lm cm p0 s0 iw M1) 159 [.val (.ref m), .val (.int (nI k)), .val (.int (nI (115 + 5 * k))), x3, x4, x5, x6, x7, x8] [] := by
    intro M1 x3 x4 x5 x6 x7 x8 h8 he
    have L2 : ∀ j i, i + j = 155 → 150 ≤ i → G B Γ 0 0 (wM m ad sv ch ea fa th pm lm cm p0 s0 iw (cpu (cpu M1 (fun q => M1 (q + 5)) (115 + 5 * k) 150) (fun _ => 0) 150 i)) 197 [.val (.ref m), .val (.int (nI k)), .val (.int (nI (115 + 5 * k))), x3, x4, x5, x6, x7, .val (.int (nI i))] [] := by
      intro j
      induction j with
      | zero =>
        intro i hi h1
        obtain rfl : i = 155 := by omega
        refine g_iload X dX3_settles_197 rfl ?_
        refine g_sipush (v := 155) X dX3_settles_199 rfl ?_
        refine g_icmp_ge (tgt := 219) X dX3_settles_202 (by decide) (fun c_202 => ?_) (fun c_202 => absurd (nI_le (a := 155) (by omega) (by omega)) c_202)
        refine g_aload_n X dX3_settles_219 rfl rfl ?_
        refine g_getf X dX3_settles_220 fl_X3_9 (by repeat (first | with_reducible exact Pk.here | with_reducible apply Pk.there)) (by exact rfl) ?_
        refine g_iconst (v := 3) X dX3_settles_223 rfl ?_
        refine g_dup2 X dX3_settles_224 rfl rfl ?_
        refine g_iald (3) X dX3_settles_225 (by repeat (first | with_reducible exact Pk.here | with_reducible apply Pk.there)) (rfl) (by decide) (by rw [cpu_lo (by decide), cpu_lo (by omega)]) ?_
        refine g_iconst (v := 1) X dX3_settles_226 rfl ?_
        refine g_isub X dX3_settles_227 ?_
        refine g_iast (3) X dX3_settles_228 (by repeat (first | with_reducible exact Rp.here | with_reducible apply Rp.there)) (rfl) (by decide) ?_
        exact g_vret X Y dX3_settles_229 (⟨_, rfl, rfl, he⟩) (Pks.tail (rest := _) (by repeat (first | with_reducible exact Pks.nil | (with_reducible refine Pks.pure (by assumption) ?_) | (with_reducible apply Pks.cons; focus ((repeat (first | with_reducible exact Pk.here | with_reducible apply Pk.there)); done)) | (refine Pks.cons Pk.here ?_))))
      | succ j ih =>
        intro i hi h1
        refine g_iload X dX3_settles_197 rfl ?_
        refine g_sipush (v := 155) X dX3_settles_199 rfl ?_
        refine g_icmp_ge (tgt := 219) X dX3_settles_202 (by decide) (fun c_202 => absurd c_202 (nI_ge (b := 155) (by omega) (by decide))) (fun c_202 => ?_)
        refine g_aload_n X dX3_settles_205 rfl rfl ?_
        refine g_getf X dX3_settles_206 fl_X3_9 (by repeat (first | with_reducible exact Pk.here | with_reducible apply Pk.there)) (by exact rfl) ?_
        refine g_iload X dX3_settles_209 rfl ?_
        refine g_iconst (v := 0) X dX3_settles_211 rfl ?_
        refine g_iast (i) X dX3_settles_212 (by repeat (first | with_reducible exact Rp.here | with_reducible apply Rp.there)) (rfl) (by omega) ?_
        refine ii_9_8 (v := nI (i + 1)) X dX3_settles_213 (nI_1 i) rfl ?_
        refine g_goto (tgt := 197) X dX3_settles_216 (by decide) ?_
        rw [cpu_st h1 rfl]
        exact ih (i + 1) (by omega) (by omega)
    have L1 : ∀ j i, i + j = 150 → 115 + 5 * k ≤ i → G B Γ 0 0 (wM m ad sv ch ea fa th pm lm cm p0 s0 iw (cpu M1 (fun q => M1 (q + 5)) (115 + 5 * k) i)) 162 [.val (.ref m), .val (.int (nI k)), .val (.int (nI (115 + 5 * k))), x3, x4, x5, x6, x7, .val (.int (nI i))] [] := by
      intro j
      induction j with
      | zero =>
        intro i hi h1
        obtain rfl : i = 150 := by omega
        refine g_iload X dX3_settles_162 rfl ?_
        refine g_sipush (v := 150) X dX3_settles_164 rfl ?_
        refine g_icmp_ge (tgt := 192) X dX3_settles_167 (by decide) (fun c_167 => ?_) (fun c_167 => absurd (nI_le (a := 150) (by omega) (by omega)) c_167)
        refine g_sipush (v := 150) X dX3_settles_192 rfl ?_
        refine is_9_8 X dX3_settles_195 rfl ?_
        have h2 := L2 5 150 rfl (by omega)
        rw [cpu_0] at h2
        exact h2
      | succ j ih =>
        intro i hi h1
        refine g_iload X dX3_settles_162 rfl ?_
        refine g_sipush (v := 150) X dX3_settles_164 rfl ?_
        refine g_icmp_ge (tgt := 192) X dX3_settles_167 (by decide) (fun c_167 => absurd c_167 (nI_ge (b := 150) (by omega) (by decide))) (fun c_167 => ?_)
        refine g_aload_n X dX3_settles_170 rfl rfl ?_
        refine g_getf X dX3_settles_171 fl_X3_9 (by repeat (first | with_reducible exact Pk.here | with_reducible apply Pk.there)) (by exact rfl) ?_
        refine g_iload X dX3_settles_174 rfl ?_
        refine g_aload_n X dX3_settles_176 rfl rfl ?_
        refine g_getf X dX3_settles_177 fl_X3_9 (by repeat (first | with_reducible exact Pk.here | with_reducible apply Pk.there)) (by exact rfl) ?_
        refine g_iload X dX3_settles_180 rfl ?_
        refine g_iconst (v := 5) X dX3_settles_182 rfl ?_
        refine g_iadd X dX3_settles_183 ?_
        refine g_iald (i+5) X dX3_settles_184 (by repeat (first | with_reducible exact Pk.here | with_reducible apply Pk.there)) (nIp5 i) (by omega) (by exact cpu_hi (by omega)) ?_
        refine g_iast (i) X dX3_settles_185 (by repeat (first | with_reducible exact Rp.here | with_reducible apply Rp.there)) (rfl) (by omega) ?_
        refine ii_9_8 (v := nI (i + 1)) X dX3_settles_186 (nI_1 i) rfl ?_
        refine g_goto (tgt := 162) X dX3_settles_189 (by decide) ?_
        rw [cpu_st h1 rfl]
        exact ih (i + 1) (by omega) (by omega)
    refine g_iload_n X dX3_settles_159 rfl rfl ?_
    refine is_9_8 X dX3_settles_160 (by exact st_lz [_, _, _, _, _, _, _, _] [] h8 rfl) ?_
    have h3 := L1 (150 - (115 + 5 * k)) (115 + 5 * k) (by omega) (by omega)
    rw [cpu_0] at h3
    exact h3
  have J : ∀ g : Int32, g = (if sN S 5 = 0 then 0 else (nI (sN S 5) - nI c.2.2.2.1) * nI c.2.2.1) → G B Γ 0 0 (wM m ad sv ch ea fa th pm lm cm p0 s0 iw M) 29 [.val (.ref m), .val (.int (nI k)), .val (.int (nI (115 + 5 * k))), .unset, .unset, .unset, .unset, .unset, .unset] [.int g] := by
    intro g hg
    obtain ⟨y1, y2, y3⟩ := gain_ hS.2.2 g3 g2 hg c ⟨rfl, rfl⟩
    have K : G B Γ 0 0 (wM m ad sv ch ea fa th pm lm cm p0 s0 iw M) 80 [.val (.ref m), .val (.int (nI k)), .val (.int (nI (115 + 5 * k))), .val (.int g), .val (.int (nI (17 + 3 * frS (sN S 5) c))), .unset, .unset, .unset, .unset] [.int (nI (17 + 3 * toS (sN S 5) c))] := by
      refine is_9_5 X dX3_settles_80 rfl ?_
      refine g_iload_n X dX3_settles_82 rfl rfl ?_
      refine g_callS X dX3_settles_83 ms_X3_140 (c_J14_abs hB) rfl (by repeat (first | with_reducible exact Pks.nil | (with_reducible refine Pks.pure (by assumption) ?_) | (with_reducible apply Pks.cons; focus ((repeat (first | with_reducible exact Pk.here | with_reducible apply Pk.there)); done)) | (refine Pks.cons Pk.here ?_))) rfl rfl (by decide) (by exact Nat.le_of_ble_eq_true rfl) (by first | decide | omega) (fun r w1 hq => ?_) (fun E q w1 hq => hq.elim)
      obtain ⟨rfl, rfl⟩ := hq
      dsimp only [wM, PoM, List.cons_append, List.nil_append, Option.toList_some, Option.toList_none]
      rw [y2]
      refine is_9_6 X dX3_settles_86 rfl ?_
      refine g_iload X dX3_settles_88 rfl ?_
      refine g_aload_n X dX3_settles_90 rfl rfl ?_
      refine g_getf X dX3_settles_91 fl_X3_9 (by repeat (first | with_reducible exact Pk.here | with_reducible apply Pk.there)) (by exact rfl) ?_
      refine g_iload X dX3_settles_94 rfl ?_
      refine g_iald (17 + 3 * frS (sN S 5) c) X dX3_settles_96 (by repeat (first | with_reducible exact Pk.here | with_reducible apply Pk.there)) (rfl) (by omega) (by exact hM) ?_
      refine g_callS X dX3_settles_97 ms_X3_111 (c_J14_min hB rfl rfl (by omega) (by omega)) rfl (by repeat (first | with_reducible exact Pks.nil | (with_reducible refine Pks.pure (by assumption) ?_) | (with_reducible apply Pks.cons; focus ((repeat (first | with_reducible exact Pk.here | with_reducible apply Pk.there)); done)) | (refine Pks.cons Pk.here ?_))) rfl rfl (by decide) (by exact Nat.le_of_ble_eq_true rfl) (by first | decide | omega) (fun r w1 hq => ?_) (fun E q w1 hq => hq.elim)
      obtain ⟨rfl, rfl⟩ := hq
      dsimp only [wM, PoM, List.cons_append, List.nil_append, Option.toList_some, Option.toList_none]
      rw [← hpd]
      refine is_9_7 X dX3_settles_100 rfl ?_
      refine g_aload_n X dX3_settles_102 rfl rfl ?_
      refine g_getf X dX3_settles_103 fl_X3_9 (by repeat (first | with_reducible exact Pk.here | with_reducible apply Pk.there)) (by exact rfl) ?_
      refine g_iload X dX3_settles_106 rfl ?_
      refine g_dup2 X dX3_settles_108 rfl rfl ?_
      refine g_iald (17 + 3 * frS (sN S 5) c) X dX3_settles_109 (by repeat (first | with_reducible exact Pk.here | with_reducible apply Pk.there)) (rfl) (by omega) (by exact rfl) ?_
      refine g_iload X dX3_settles_110 rfl ?_
      refine g_isub X dX3_settles_112 ?_
      refine g_iast (17 + 3 * frS (sN S 5) c) X dX3_settles_113 (by repeat (first | with_reducible exact Rp.here | with_reducible apply Rp.there)) (rfl) (by omega) ?_
      refine g_aload_n X dX3_settles_114 rfl rfl ?_
      refine g_getf X dX3_settles_115 fl_X3_9 (by repeat (first | with_reducible exact Pk.here | with_reducible apply Pk.there)) (by exact rfl) ?_
      refine g_iload X dX3_settles_118 rfl ?_
      refine g_dup2 X dX3_settles_120 rfl rfl ?_
      refine g_iald (17 + 3 * toS (sN S 5) c) X dX3_settles_121 (by repeat (first | with_reducible exact Pk.here | with_reducible apply Pk.there)) (rfl) (by omega) (by exact rfl) ?_
      refine g_iload X dX3_settles_122 rfl ?_
      refine g_iadd X dX3_settles_124 ?_
      refine g_iast (17 + 3 * toS (sN S 5) c) X dX3_settles_125 (by repeat (first | with_reducible exact Rp.here | with_reducible apply Rp.there)) (rfl) (by omega) ?_
      refine g_aload_n X dX3_settles_126 rfl rfl ?_
      refine g_getf X dX3_settles_127 fl_X3_9 (by repeat (first | with_reducible exact Pk.here | with_reducible apply Pk.there)) (by exact rfl) ?_
      refine g_bipush (v := 9) X dX3_settles_130 rfl ?_
      refine g_dup2 X dX3_settles_132 rfl rfl ?_
      refine g_iald (9) X dX3_settles_133 (by repeat (first | with_reducible exact Pk.here | with_reducible apply Pk.there)) (rfl) (by decide) (by exact rfl) ?_
      refine g_iload X dX3_settles_134 rfl ?_
      refine g_iload X dX3_settles_136 rfl ?_
      refine g_icmp_ge (tgt := 145) X dX3_settles_138 (by decide) (fun c_138 => ?_) (fun c_138 => ?_)
      · have h1 := (nI_leI (by omega) (by omega)).mp c_138
        have f2 := ((f1.nv (i := 9) (v := if pdS S c < owS (sN S 5) c then 1 else 0) (y := 0) (by omega) (by rw [if_neg (Nat.not_lt.mpr h1)]; rfl)).n1 (i := 8) (by omega)).closeC (k := k) hk
        refine g_iconst (v := 0) X dX3_settles_145 rfl ?_
        refine g_iadd X dX3_settles_146 ?_
        refine g_iast (9) X dX3_settles_147 (by repeat (first | with_reducible exact Rp.here | with_reducible apply Rp.there)) (rfl) (by decide) ?_
        refine g_aload_n X dX3_settles_148 rfl rfl ?_
        refine g_getf X dX3_settles_149 fl_X3_9 (by repeat (first | with_reducible exact Pk.here | with_reducible apply Pk.there)) (by exact rfl) ?_
        refine g_bipush (v := 8) X dX3_settles_152 rfl ?_
        refine g_dup2 X dX3_settles_154 rfl rfl ?_
        refine g_iald (8) X dX3_settles_155 (by repeat (first | with_reducible exact Pk.here | with_reducible apply Pk.there)) (rfl) (by decide) (by exact rfl) ?_
        refine g_iconst (v := 1) X dX3_settles_156 rfl ?_
        refine g_iadd X dX3_settles_157 ?_
        refine g_iast (8) X dX3_settles_158 (by repeat (first | with_reducible exact Rp.here | with_reducible apply Rp.there)) (rfl) (by decide) ?_
        exact L2 _ _ _ _ _ _ _ LZ.u f2
      · have h1 : pdS S c < owS (sN S 5) c := Nat.lt_of_not_le fun q => c_138 ((nI_leI (by omega) (by omega)).mpr q)
        have f2 := ((f1.nv (i := 9) (v := if pdS S c < owS (sN S 5) c then 1 else 0) (y := 1) (by omega) (by rw [if_pos h1]; rfl)).n1 (i := 8) (by omega)).closeC (k := k) hk
        refine g_iconst (v := 1) X dX3_settles_141 rfl ?_
        refine g_goto (tgt := 146) X dX3_settles_142 (by decide) ?_
        refine g_iadd X dX3_settles_146 ?_
        refine g_iast (9) X dX3_settles_147 (by repeat (first | with_reducible exact Rp.here | with_reducible apply Rp.there)) (rfl) (by decide) ?_
        refine g_aload_n X dX3_settles_148 rfl rfl ?_
        refine g_getf X dX3_settles_149 fl_X3_9 (by repeat (first | with_reducible exact Pk.here | with_reducible apply Pk.there)) (by exact rfl) ?_
        refine g_bipush (v := 8) X dX3_settles_152 rfl ?_
        refine g_dup2 X dX3_settles_154 rfl rfl ?_
        refine g_iald (8) X dX3_settles_155 (by repeat (first | with_reducible exact Pk.here | with_reducible apply Pk.there)) (rfl) (by decide) (by exact rfl) ?_
        refine g_iconst (v := 1) X dX3_settles_156 rfl ?_
        refine g_iadd X dX3_settles_157 ?_
        refine g_iast (8) X dX3_settles_158 (by repeat (first | with_reducible exact Rp.here | with_reducible apply Rp.there)) (rfl) (by decide) ?_
        exact L2 _ _ _ _ _ _ _ LZ.u f2
    by_cases hq : sN S 5 ≠ 0 ∧ c.2.2.2.1 < sN S 5 ∧ 0 < c.2.2.1
    · have hg0 : ¬ g ≤ 0 := fun z => y1.mp z hq
      rw [show frS (sN S 5) c = c.1 from if_pos hq, show toS (sN S 5) c = c.2.1 from if_pos hq] at K
      refine is_9_3n X dX3_settles_29 rfl rfl ?_
      refine g_iload_n X dX3_settles_30 rfl rfl ?_
      refine g_if_le (tgt := 43) X dX3_settles_31 (by decide) (fun c_31 => absurd c_31 (hg0)) (fun c_31 => ?_)
      refine g_aload_n X dX3_settles_34 rfl rfl ?_
      refine g_getf X dX3_settles_35 fl_X3_9 (by repeat (first | with_reducible exact Pk.here | with_reducible apply Pk.there)) (by exact rfl) ?_
      refine g_iload_n X dX3_settles_38 rfl rfl ?_
      refine g_iald (115 + 5 * k) X dX3_settles_39 (by repeat (first | with_reducible exact Pk.here | with_reducible apply Pk.there)) (rfl) (by omega) (by exact e0) ?_
      refine g_goto (tgt := 51) X dX3_settles_40 (by decide) ?_
      refine g_callS X dX3_settles_51 ms_X3_78 (c_X3_traderAt hB) rfl (by repeat (first | with_reducible exact Pks.nil | (with_reducible refine Pks.pure (by assumption) ?_) | (with_reducible apply Pks.cons; focus ((repeat (first | with_reducible exact Pk.here | with_reducible apply Pk.there)); done)) | (refine Pks.cons Pk.here ?_))) rfl rfl (by decide) (by exact Nat.le_of_ble_eq_true rfl) (by first | decide | omega) (fun r w1 hq => ?_) (fun E q w1 hq => hq.elim)
      obtain ⟨rfl, rfl⟩ := hq
      dsimp only [wM, PoM, List.cons_append, List.nil_append, Option.toList_some, Option.toList_none]
      rw [it_]
      refine is_9_4 X dX3_settles_54 rfl ?_
      refine g_iload_n X dX3_settles_56 rfl rfl ?_
      refine g_if_le (tgt := 71) X dX3_settles_57 (by decide) (fun c_57 => absurd c_57 (hg0)) (fun c_57 => ?_)
      refine g_aload_n X dX3_settles_60 rfl rfl ?_
      refine g_getf X dX3_settles_61 fl_X3_9 (by repeat (first | with_reducible exact Pk.here | with_reducible apply Pk.there)) (by exact rfl) ?_
      refine g_iload_n X dX3_settles_64 rfl rfl ?_
      refine g_iconst (v := 1) X dX3_settles_65 rfl ?_
      refine g_iadd X dX3_settles_66 ?_
      refine g_iald (115 + 5 * k + 1) X dX3_settles_67 (by repeat (first | with_reducible exact Pk.here | with_reducible apply Pk.there)) (nI_1 _) (by omega) (by exact e1) ?_
      refine g_goto (tgt := 77) X dX3_settles_68 (by decide) ?_
      refine g_callS X dX3_settles_77 ms_X3_78 (c_X3_traderAt hB) rfl (by repeat (first | with_reducible exact Pks.nil | (with_reducible refine Pks.pure (by assumption) ?_) | (with_reducible apply Pks.cons; focus ((repeat (first | with_reducible exact Pk.here | with_reducible apply Pk.there)); done)) | (refine Pks.cons Pk.here ?_))) rfl rfl (by decide) (by exact Nat.le_of_ble_eq_true rfl) (by first | decide | omega) (fun r w1 hq => ?_) (fun E q w1 hq => hq.elim)
      obtain ⟨rfl, rfl⟩ := hq
      dsimp only [wM, PoM, List.cons_append, List.nil_append, Option.toList_some, Option.toList_none]
      rw [it_]
      exact K
    · have hg0 := y1.mpr hq
      rw [show frS (sN S 5) c = c.2.1 from if_neg hq, show toS (sN S 5) c = c.1 from if_neg hq] at K
      refine is_9_3n X dX3_settles_29 rfl rfl ?_
      refine g_iload_n X dX3_settles_30 rfl rfl ?_
      refine g_if_le (tgt := 43) X dX3_settles_31 (by decide) (fun c_31 => ?_) (fun c_31 => absurd (hg0) c_31)
      refine g_aload_n X dX3_settles_43 rfl rfl ?_
      refine g_getf X dX3_settles_44 fl_X3_9 (by repeat (first | with_reducible exact Pk.here | with_reducible apply Pk.there)) (by exact rfl) ?_
      refine g_iload_n X dX3_settles_47 rfl rfl ?_
      refine g_iconst (v := 1) X dX3_settles_48 rfl ?_
      refine g_iadd X dX3_settles_49 ?_
      refine g_iald (115 + 5 * k + 1) X dX3_settles_50 (by repeat (first | with_reducible exact Pk.here | with_reducible apply Pk.there)) (nI_1 _) (by omega) (by exact e1) ?_
      refine g_callS X dX3_settles_51 ms_X3_78 (c_X3_traderAt hB) rfl (by repeat (first | with_reducible exact Pks.nil | (with_reducible refine Pks.pure (by assumption) ?_) | (with_reducible apply Pks.cons; focus ((repeat (first | with_reducible exact Pk.here | with_reducible apply Pk.there)); done)) | (refine Pks.cons Pk.here ?_))) rfl rfl (by decide) (by exact Nat.le_of_ble_eq_true rfl) (by first | decide | omega) (fun r w1 hq => ?_) (fun E q w1 hq => hq.elim)
      obtain ⟨rfl, rfl⟩ := hq
      dsimp only [wM, PoM, List.cons_append, List.nil_append, Option.toList_some, Option.toList_none]
      rw [it_]
      refine is_9_4 X dX3_settles_54 rfl ?_
      refine g_iload_n X dX3_settles_56 rfl rfl ?_
      refine g_if_le (tgt := 71) X dX3_settles_57 (by decide) (fun c_57 => ?_) (fun c_57 => absurd (hg0) c_57)
      refine g_aload_n X dX3_settles_71 rfl rfl ?_
      refine g_getf X dX3_settles_72 fl_X3_9 (by repeat (first | with_reducible exact Pk.here | with_reducible apply Pk.there)) (by exact rfl) ?_
      refine g_iload_n X dX3_settles_75 rfl rfl ?_
      refine g_iald (115 + 5 * k) X dX3_settles_76 (by repeat (first | with_reducible exact Pk.here | with_reducible apply Pk.there)) (rfl) (by omega) (by exact e0) ?_
      refine g_callS X dX3_settles_77 ms_X3_78 (c_X3_traderAt hB) rfl (by repeat (first | with_reducible exact Pks.nil | (with_reducible refine Pks.pure (by assumption) ?_) | (with_reducible apply Pks.cons; focus ((repeat (first | with_reducible exact Pk.here | with_reducible apply Pk.there)); done)) | (refine Pks.cons Pk.here ?_))) rfl rfl (by decide) (by exact Nat.le_of_ble_eq_true rfl) (by first | decide | omega) (fun r w1 hq => ?_) (fun E q w1 hq => hq.elim)
      obtain ⟨rfl, rfl⟩ := hq
      dsimp only [wM, PoM, List.cons_append, List.nil_append, Option.toList_some, Option.toList_none]
      rw [it_]
      exact K
  have hL2 := hS.2.2
  by_cases h0 : sN S 5 = 0
  · rw [if_pos h0] at J
    refine g_iload_n X dX3_settles_0 rfl rfl ?_
    refine g_callS X dX3_settles_1 ms_X3_130 (c_X3_contractAt hB) rfl (by repeat (first | with_reducible exact Pks.nil | (with_reducible refine Pks.pure (by assumption) ?_) | (with_reducible apply Pks.cons; focus ((repeat (first | with_reducible exact Pk.here | with_reducible apply Pk.there)); done)) | (refine Pks.cons Pk.here ?_))) rfl rfl (by decide) (by exact Nat.le_of_ble_eq_true rfl) (by first | decide | omega) (fun r w1 hq => ?_) (fun E q w1 hq => hq.elim)
    obtain ⟨rfl, rfl⟩ := hq
    dsimp only [wM, PoM, List.cons_append, List.nil_append, Option.toList_some, Option.toList_none]
    rw [ic]
    refine is_9_2n X dX3_settles_4 rfl rfl ?_
    refine g_aload_n X dX3_settles_5 rfl rfl ?_
    refine g_getf X dX3_settles_6 fl_X3_9 (by repeat (first | with_reducible exact Pk.here | with_reducible apply Pk.there)) (by exact rfl) ?_
    refine g_iconst (v := 5) X dX3_settles_9 rfl ?_
    refine g_iald (5) X dX3_settles_10 (by repeat (first | with_reducible exact Pk.here | with_reducible apply Pk.there)) (rfl) (by decide) (by exact hL) ?_
    refine g_if_ne (tgt := 18) X dX3_settles_11 (by decide) (fun c_11 => absurd c_11 (fun q => q (by rw [h0]; rfl))) (fun c_11 => ?_)
    refine g_iconst (v := 0) X dX3_settles_14 rfl ?_
    refine g_goto (tgt := 29) X dX3_settles_15 (by decide) ?_
    exact J _ rfl
  · rw [if_neg h0] at J
    refine g_iload_n X dX3_settles_0 rfl rfl ?_
    refine g_callS X dX3_settles_1 ms_X3_130 (c_X3_contractAt hB) rfl (by repeat (first | with_reducible exact Pks.nil | (with_reducible refine Pks.pure (by assumption) ?_) | (with_reducible apply Pks.cons; focus ((repeat (first | with_reducible exact Pk.here | with_reducible apply Pk.there)); done)) | (refine Pks.cons Pk.here ?_))) rfl rfl (by decide) (by exact Nat.le_of_ble_eq_true rfl) (by first | decide | omega) (fun r w1 hq => ?_) (fun E q w1 hq => hq.elim)
    obtain ⟨rfl, rfl⟩ := hq
    dsimp only [wM, PoM, List.cons_append, List.nil_append, Option.toList_some, Option.toList_none]
    rw [ic]
    refine is_9_2n X dX3_settles_4 rfl rfl ?_
    refine g_aload_n X dX3_settles_5 rfl rfl ?_
    refine g_getf X dX3_settles_6 fl_X3_9 (by repeat (first | with_reducible exact Pk.here | with_reducible apply Pk.there)) (by exact rfl) ?_
    refine g_iconst (v := 5) X dX3_settles_9 rfl ?_
    refine g_iald (5) X dX3_settles_10 (by repeat (first | with_reducible exact Pk.here | with_reducible apply Pk.there)) (rfl) (by decide) (by exact hL) ?_
    refine g_if_ne (tgt := 18) X dX3_settles_11 (by decide) (fun c_11 => ?_) (fun c_11 => absurd c_11 (fun q => h0 (nI_inj (b := 0) (by omega) (by decide) q)))
    refine g_aload_n X dX3_settles_18 rfl rfl ?_
    refine g_iload_n X dX3_settles_19 rfl rfl ?_
    refine g_aload_n X dX3_settles_20 rfl rfl ?_
    refine g_getf X dX3_settles_21 fl_X3_9 (by repeat (first | with_reducible exact Pk.here | with_reducible apply Pk.there)) (by exact rfl) ?_
    refine g_iconst (v := 5) X dX3_settles_24 rfl ?_
    refine g_iald (5) X dX3_settles_25 (by repeat (first | with_reducible exact Pk.here | with_reducible apply Pk.there)) (rfl) (by decide) (by exact hL) ?_
    refine g_callV X dX3_settles_26 mv_X3_137 (c_X3_gainOf hB hE.2.2.2.2.1 hc) rfl cl_X3 (by repeat (first | with_reducible exact Rc.pt | with_reducible apply Rc.there)) (by repeat (first | with_reducible exact Pks.nil | (with_reducible refine Pks.pure (by assumption) ?_) | (with_reducible apply Pks.cons; focus ((repeat (first | with_reducible exact Pk.here | with_reducible apply Pk.there)); done)) | (refine Pks.cons Pk.here ?_))) rfl rfl (by decide) (by exact Nat.le_of_ble_eq_true rfl) (by first | decide | omega) (fun r w1 hq => ?_) (fun E q w1 hq => hq.elim)
    obtain ⟨rfl, rfl⟩ := hq
    dsimp only [wM, PoM, List.cons_append, List.nil_append, Option.toList_some, Option.toList_none]
    exact J _ rfl
end MODEL
