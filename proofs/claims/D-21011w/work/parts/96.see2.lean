/-! the scanner sees a word or a number -/
theorem px3 {g : xG} {C X W S : Option (Nat × xE)} : xu (xu (xu (xu (xu (xu g (60, 0) C) (61, 0) none) (62, 0) none) (61, 0) X) (62, 0) W) (61, 0) S = xu (xu (xu g (62, 0) W) (61, 0) S) (60, 0) C := by
  funext k
  unfold xu
  by_cases e1 : k = (60, 0)
  · subst e1; simp
  · by_cases e2 : k = (61, 0)
    · subst e2; simp
    · by_cases e3 : k = (62, 0)
      · subst e3; simp
      · simp [e1, e2, e3]

set_option maxHeartbeats 4000000 in
set_option maxRecDepth 100000 in
theorem m_X5_see_w {l : Launch} {s0 : State} {D : va_G} (h0 : x0 l s0 D) (g : xG) {sc : Nat} {Z : Nat × Nat × Nat} {tx : List Nat} {A V B : Nat → Nat} (hE : PE g Z tx A V B) {fr to at0 : Nat} {bd : Int} {pl nb wh op sg : Nat} {wd : Option Nat} {sp R : List Nat} {c : Nat} (hq : g (60, 0) = (some (sc, scO Z fr to (at0) bd pl nb wh op 0 sg wd))) (hat : at0 ≤ tx.length) (hL : tx.drop at0 = sp ++ c :: R) (hsp : sp.all chS = true) (hcS : chS c = false) {w L' : List Nat} (hR : R = w ++ L') (hcc : (c :: w).all chL = true) (hb1 : -1 ≤ bd) (hb2 : bd ≤ at0) (hbd : bd ≠ ((at0 + sp.length : Nat) : Int)) (hw : w.length ≤ 5) (hH : chL (L'.headD 0) = false)  : xMet l s0 D yX5_see cX5_see 4 (some .int) (xr 6 2 20 200) [.ref sc] g (fun r g1 => ∃ wa d1, r = some (.int 1) ∧ g1 = xu (xu (xu g (62, 0) (some (d1, xAi .byte (c :: w).length (sL (c :: w))))) (61, 0) (some (wa, xO 23 [.ref d1, .int 0, .int 0, .int 0]))) (60, 0) (some (sc, scO Z fr to ((at0 + sp.length) + (w.length + 1)) ((at0 + sp.length + (w.length + 1) : Nat) : Int) (at0 + sp.length) nb 1 op 1 sg (some wa)))) := by
  refine xMet.of h0 (by decide +kernel) rfl ?_
  intro zp ze zs zm za zb zf zc hC hr hnm
  have hcc1 : chL c = true := by rw [List.all_cons, Bool.and_eq_true] at hcc; exact hcc.1
  have hcL := hcc1
  obtain ⟨⟨rest, ta, T, hO, hT, hTx⟩, hZ, hsz, hA, hK⟩ := hE
  have hlen := drop_len hL hat
  refine x_geq (g' := (xu g (60, 0) (some (sc, scO Z fr to (at0) bd pl nb wh op 0 sg wd)))) (xu_self hq).symm ?_
  refine x_aloadr_n hC dX5_see_0 (q := 1) rfl rfl ?_
  refine x_get hC xf_X5_29_4 dX5_see_1 (q := 4) rfl (n := (60, 0)) (xu_eq _ _ _) rfl ?_
  refine x_if_eq hC dX5_see_4 (q := 7) rfl (tgt := 12) rfl (fun h4 => ?_) (fun h4 => ?_)
  · refine x_loop (S := (fun i : Nat => ((0 : Nat), (0 : Nat), (xu g (60, 0) (some (sc, scO Z fr to (at0 + i) bd pl nb wh op 0 sg wd))), ([some (.ref sc), none, none, none] : xL), ([] : List Value)))) (Inv := fun i => i ≤ sp.length) (μ := fun i => sp.length - i) ?_ 0 (Nat.zero_le _)
    intro i hi ih
    dsimp only at hi ih ⊢
    refine x_aloadr_n hC dX5_see_12 (q := 13) rfl rfl ?_
    refine x_get hC xf_X5_36_4 dX5_see_13 (q := 16) rfl (n := (60, 0)) (xu_eq _ _ _) rfl ?_
    refine x_aloadr_n hC dX5_see_16 (q := 17) rfl rfl ?_
    refine x_get hC xf_X5_26_4 dX5_see_17 (q := 20) rfl (n := (60, 0)) (xu_eq _ _ _) rfl ?_
    refine x_icmp_ge hC dX5_see_20 (q := 23) rfl (tgt := 70) rfl (fun h20 => ?_) (fun h20 => ?_)
    · exact absurd (show nI Z.1 ≤ nI (at0 + i) from h20) (nI_ge (by rw [List.length_append, List.length_cons] at hlen; omega) (by omega))
    have hlen2 := hlen
    rw [List.length_append, List.length_cons] at hlen2
    have hx8 : (sp ++ c :: R).getD i 0 < 128 := by rw [← drop_at hL i]; exact hA _
    have hcs := sp_at (c := c) (L := R) hsp hi
    have hc8 : c < 128 := by
      have := hA (at0 + sp.length)
      rw [drop_at hL, (sp_at hsp (Nat.le_refl _)).2 rfl] at this
      exact this
    refine x_aloadr_n hC dX5_see_23 (q := 24) rfl rfl ?_
    refine x_get hC xf_X5_3_4 dX5_see_24 (q := 27) rfl (n := (60, 0)) (xu_eq _ _ _) rfl ?_
    refine x_get hC xf_X5_39_1 dX5_see_27 (q := 30) rfl (n := (0, 0)) (by rw [xu_ne (by decide)]; exact hO) rfl ?_
    refine x_aloadr_n hC dX5_see_30 (q := 31) rfl rfl ?_
    refine x_get hC xf_X5_36_4 dX5_see_31 (q := 34) rfl (n := (60, 0)) (xu_eq _ _ _) rfl ?_
    refine x_cald hC dX5_see_34 (q := 35) rfl (n := (1, 0)) (by rw [xu_ne (by decide)]; exact hT) (j := at0 + i) rfl (by omega) (by decide) ?_
    rw [hTx _ (by omega), drop_at hL i]
    refine x_bipush hC dX5_see_35 (q := 37) rfl (v := (32)) (by decide) ?_
    refine x_icmp_eq hC dX5_see_37 (q := 40) rfl (tgt := 57) rfl (fun h37 => ?_) (fun h37 => ?_)
    · have hi2 : i < sp.length := by
        rcases Nat.lt_or_eq_of_le hi with e | e
        · exact e
        · have h32 := (nI_32 hx8).mp h37
          rw [hcs.2 e] at h32
          rw [h32] at hcS
          exact absurd hcS (by decide)
      refine x_aloadr_n hC dX5_see_57 (q := 58) rfl rfl ?_
      refine x_dup hC dX5_see_58 (q := 59) rfl rfl ?_
      refine x_get hC xf_X5_36_4 dX5_see_59 (q := 62) rfl (n := (60, 0)) (xu_eq _ _ _) rfl ?_
      refine x_iconst hC dX5_see_62 (q := 63) rfl (v := (1)) (by decide) ?_
      refine x_iadd hC dX5_see_63 (q := 64) rfl ?_
      rw [nI_1]
      refine x_put hC (n := (60, 0)) xf_X5_36_4 xd_4 rfl dX5_see_64 (q := 67) rfl (xu_eq _ _ _) rfl rfl rfl ?_
      rw [xu_xu]
      refine x_goto hC dX5_see_67 (tgt := 12) rfl ?_
      exact ih (i + 1) (by (try dsimp only); omega) (by (try dsimp only); omega)
    refine x_aloadr_n hC dX5_see_40 (q := 41) rfl rfl ?_
    refine x_get hC xf_X5_3_4 dX5_see_41 (q := 44) rfl (n := (60, 0)) (xu_eq _ _ _) rfl ?_
    refine x_get hC xf_X5_39_1 dX5_see_44 (q := 47) rfl (n := (0, 0)) (by rw [xu_ne (by decide)]; exact hO) rfl ?_
    refine x_aloadr_n hC dX5_see_47 (q := 48) rfl rfl ?_
    refine x_get hC xf_X5_36_4 dX5_see_48 (q := 51) rfl (n := (60, 0)) (xu_eq _ _ _) rfl ?_
    refine x_cald hC dX5_see_51 (q := 52) rfl (n := (1, 0)) (by rw [xu_ne (by decide)]; exact hT) (j := at0 + i) rfl (by omega) (by decide) ?_
    rw [hTx _ (by omega), drop_at hL i]
    refine x_bipush hC dX5_see_52 (q := 54) rfl (v := (10)) (by decide) ?_
    refine x_icmp_ne hC dX5_see_54 (q := 57) rfl (tgt := 70) rfl (fun h54 => ?_) (fun h54 => ?_)
    · have hi3 : i = sp.length := by
        rcases Nat.lt_or_eq_of_le hi with e | e
        · rcases (chS_iff _).mp (hcs.1 e) with q | q
          · exact absurd ((nI_32 hx8).mpr q) h37
          · exact absurd ((nI_10 hx8).mpr q) h54
        · exact e
      subst hi3
      refine x_aloadr_n hC dX5_see_70 (q := 71) rfl rfl ?_
      refine x_aloadr_n hC dX5_see_71 (q := 72) rfl rfl ?_
      refine x_get hC xf_X5_36_4 dX5_see_72 (q := 75) rfl (n := (60, 0)) (xu_eq _ _ _) rfl ?_
      refine x_put hC (n := (60, 0)) xf_X5_43_4 xd_4 rfl dX5_see_75 (q := 78) rfl (xu_eq _ _ _) rfl rfl rfl ?_
      rw [xu_xu]
      refine x_aloadr_n hC dX5_see_78 (q := 79) rfl rfl ?_
      refine x_iconst hC dX5_see_79 (q := 80) rfl (v := (1)) (by decide) ?_
      refine x_put hC (n := (60, 0)) xf_X5_29_4 xd_4 rfl dX5_see_80 (q := 83) rfl (xu_eq _ _ _) rfl rfl rfl ?_
      rw [xu_xu]
      refine x_aloadr_n hC dX5_see_83 (q := 84) rfl rfl ?_
      refine x_iconst hC dX5_see_84 (q := 85) rfl (v := (0)) (by decide) ?_
      refine x_put hC (n := (60, 0)) xf_X5_33_4 xd_4 rfl dX5_see_85 (q := 88) rfl (xu_eq _ _ _) rfl rfl rfl ?_
      rw [xu_xu]
      refine x_aloadr_n hC dX5_see_88 (q := 89) rfl rfl ?_
      refine x_get hC xf_X5_36_4 dX5_see_89 (q := 92) rfl (n := (60, 0)) (xu_eq _ _ _) rfl ?_
      refine x_aloadr_n hC dX5_see_92 (q := 93) rfl rfl ?_
      refine x_get hC xf_X5_26_4 dX5_see_93 (q := 96) rfl (n := (60, 0)) (xu_eq _ _ _) rfl ?_
      refine x_icmp_ne hC dX5_see_96 (q := 99) rfl (tgt := 104) rfl (fun h96 => ?_) (fun h96 => ?_)
      · refine x_aloadr_n hC dX5_see_104 (q := 105) rfl rfl ?_
        refine x_get hC xf_X5_3_4 dX5_see_105 (q := 108) rfl (n := (60, 0)) (xu_eq _ _ _) rfl ?_
        refine x_get hC xf_X5_39_1 dX5_see_108 (q := 111) rfl (n := (0, 0)) (by rw [xu_ne (by decide)]; exact hO) rfl ?_
        refine x_aloadr_n hC dX5_see_111 (q := 112) rfl rfl ?_
        refine x_get hC xf_X5_36_4 dX5_see_112 (q := 115) rfl (n := (60, 0)) (xu_eq _ _ _) rfl ?_
        refine x_cald hC dX5_see_115 (q := 116) rfl (n := (1, 0)) (by rw [xu_ne (by decide)]; exact hT) (j := at0 + sp.length) rfl (by omega) (by decide) ?_
        rw [hTx _ (by omega), drop_at hL, (sp_at hsp (Nat.le_refl _)).2 rfl]
        refine x_istore_n hC dX5_see_116 (q := 117) rfl rfl ?_
        refine x_aloadr_n hC dX5_see_117 (q := 118) rfl rfl ?_
        refine x_iload_n hC dX5_see_118 (q := 119) rfl rfl ?_
        refine x_callV hC xv_X5_46 dX5_see_119 (q := 122) rfl rfl (m_X5_isLetter h0 _ sc (nI c)) (nn := (60, 0)) (xu_eq _ _ _) rfl rfl (Nat.le_of_ble_eq_true rfl) ⟨(Nat.le_of_ble_eq_true rfl), (Nat.le_of_ble_eq_true rfl)⟩ ⟨(Nat.le_of_ble_eq_true rfl), (Nat.le_of_ble_eq_true rfl)⟩ (fun v g1 hp => ?_)
        rw [if_pos ((chL_iff hc8).mpr hcL)] at hp
        obtain ⟨rfl, hg1⟩ := hp
        replace hg1 := hg1.symm
        subst hg1
        refine x_istore_n hC dX5_see_122 (q := 123) rfl rfl ?_
        refine x_iload_n hC dX5_see_123 (q := 124) rfl rfl ?_
        refine x_if_ne hC dX5_see_124 (q := 127) rfl (tgt := 160) rfl (fun h124 => ?_) (fun h124 => ?_)
        · refine x_aloadr_n hC dX5_see_160 (q := 161) rfl rfl ?_
          refine x_get hC xf_X5_36_4 dX5_see_161 (q := 164) rfl (n := (60, 0)) (xu_eq _ _ _) rfl ?_
          refine x_aloadr_n hC dX5_see_164 (q := 165) rfl rfl ?_
          refine x_get hC xf_X5_22_4 dX5_see_165 (q := 168) rfl (n := (60, 0)) (xu_eq _ _ _) rfl ?_
          refine x_icmp_ne hC dX5_see_168 (q := 171) rfl (tgt := 184) rfl (fun h168 => ?_) (fun h168 => ?_)
          · have hL2 : tx.drop (at0 + sp.length) = c :: w ++ L' := by rw [hR] at hL; exact drop_more hL
            have hl2 := drop_len hL2 (by omega)
            rw [List.length_append, List.length_cons] at hl2
            refine x_loop (S := (fun j : Nat => ((0 : Nat), (0 : Nat), (xu g (60, 0) (some (sc, scO Z fr to ((at0 + sp.length) + j) bd (at0 + sp.length) nb 0 op 1 sg wd))), ([some (.ref sc), some (.int (nI c)), some (.int 1), none] : xL), ([] : List Value)))) (Inv := fun j => j ≤ w.length + 1) (μ := fun j => w.length + 1 - j) ?_ 0 (Nat.zero_le _)
            intro j hj ih
            dsimp only at hj ih ⊢
            refine x_aloadr_n hC dX5_see_184 (q := 185) rfl rfl ?_
            refine x_get hC xf_X5_36_4 dX5_see_185 (q := 188) rfl (n := (60, 0)) (xu_eq _ _ _) rfl ?_
            refine x_aloadr_n hC dX5_see_188 (q := 189) rfl rfl ?_
            refine x_get hC xf_X5_26_4 dX5_see_189 (q := 192) rfl (n := (60, 0)) (xu_eq _ _ _) rfl ?_
            refine x_icmp_ge hC dX5_see_192 (q := 195) rfl (tgt := 253) rfl (fun h192 => ?_) (fun h192 => ?_)
            · have hj3 : j = w.length + 1 := by
                have := (nI_leI (by omega) (by omega)).mp (show nI Z.1 ≤ nI ((at0 + sp.length) + j) from h192)
                omega
              subst hj3
              refine x_aloadr_n hC dX5_see_253 (q := 254) rfl rfl ?_
              refine x_aloadr_n hC dX5_see_254 (q := 255) rfl rfl ?_
              refine x_get hC xf_X5_36_4 dX5_see_255 (q := 258) rfl (n := (60, 0)) (xu_eq _ _ _) rfl ?_
              rw [← iI_nat]
              refine x_put hC (n := (60, 0)) xf_X5_22_4 xd_4 rfl dX5_see_258 (q := 261) rfl (xu_eq _ _ _) rfl rfl rfl ?_
              rw [xu_xu]
              refine x_drop (61, 0) ?_
              refine x_drop (62, 0) ?_
              refine x_aloadr_n hC dX5_see_261 (q := 262) rfl rfl ?_
              refine x_new hC (fs := [.null, .int 0, .int 0, .int 0]) (61, 0) xc_23 q421 q422 q87 dX5_see_262 (q := 265) rfl rfl (by rw [xu_ne (by decide), xu_eq]) (fun j hj => by match j, hj with | 0, _ => rfl | 1, _ => rfl | 2, _ => rfl | 3, _ => rfl | j + 4, h => exact absurd h (by omega)) (Nat.le_of_ble_eq_true rfl) (Nat.le_of_ble_eq_true rfl) (fun a_262 => ?_)
              refine x_dup hC dX5_see_265 (q := 266) rfl rfl ?_
              refine x_aloadr_n hC dX5_see_266 (q := 267) rfl rfl ?_
              refine x_get hC xf_X5_3_4 dX5_see_267 (q := 270) rfl (n := (60, 0)) (by rw [xu_ne (by decide), xu_ne (by decide), xu_ne (by decide), xu_eq]) rfl ?_
              refine x_get hC xf_X5_39_1 dX5_see_270 (q := 273) rfl (n := (0, 0)) (by rw [xu_ne (by decide), xu_ne (by decide), xu_ne (by decide), xu_ne (by decide)]; exact hO) rfl ?_
              refine x_aloadr_n hC dX5_see_273 (q := 274) rfl rfl ?_
              refine x_get hC xf_X5_43_4 dX5_see_274 (q := 277) rfl (n := (60, 0)) (by rw [xu_ne (by decide), xu_ne (by decide), xu_ne (by decide), xu_eq]) rfl ?_
              refine x_aloadr_n hC dX5_see_277 (q := 278) rfl rfl ?_
              refine x_get hC xf_X5_36_4 dX5_see_278 (q := 281) rfl (n := (60, 0)) (by rw [xu_ne (by decide), xu_ne (by decide), xu_ne (by decide), xu_eq]) rfl ?_
              refine x_aloadr_n hC dX5_see_281 (q := 282) rfl rfl ?_
              refine x_get hC xf_X5_43_4 dX5_see_282 (q := 285) rfl (n := (60, 0)) (by rw [xu_ne (by decide), xu_ne (by decide), xu_ne (by decide), xu_eq]) rfl ?_
              refine x_isub hC dX5_see_285 (q := 286) rfl ?_
              rw [show nI ((at0 + sp.length) + (w.length + 1)) - nI (at0 + sp.length) = nI (c :: w).length by rw [nI_sub (by omega), Nat.add_sub_cancel_left]; rfl]
              refine x_callI hC xv_X5_64 dX5_see_286 (q := 289) rfl rfl (m_J6_init h0 _ (n := (61, 0)) (ns := (1, 0)) (nd := (62, 0)) (w := c :: w) (o := (at0 + sp.length)) (by rw [xu_ne (by decide), xu_ne (by decide), xu_ne (by decide), xu_ne (by decide)]; exact hT) (by decide) (by rw [List.length_cons]; omega) (fun k hk => by
                    rw [hTx _ (by rw [List.length_cons] at hk; omega), drop_at hL2 k, gD_app hk]) (fun k => by
                    rcases Nat.lt_or_ge k (c :: w).length with e | e
                    · have := hA ((at0 + sp.length) + k)
                      rw [drop_at hL2 k, gD_app e] at this
                      exact this
                    · rw [List.getD_eq_getElem?_getD, List.getElem?_eq_none e]; decide) rfl (by rw [xu_ne (by decide), xu_eq]) (by rw [List.length_cons]; omega) rfl (xu_eq _ _ _) (by rw [List.length_cons]; omega)) rfl (Nat.le_of_ble_eq_true rfl) ⟨(Nat.le_of_ble_eq_true rfl), (Nat.le_of_ble_eq_true rfl)⟩ ⟨(Nat.le_of_ble_eq_true rfl), (Nat.le_of_ble_eq_true rfl)⟩ (fun v g1 hp => ?_)
              obtain ⟨d1, rfl, hg1⟩ := hp
              rw [px3] at hg1
              replace hg1 := hg1.symm
              subst hg1
              refine x_put hC (n := (60, 0)) xf_X5_67_4 xd_4 rfl dX5_see_289 (q := 292) rfl (xu_eq _ _ _) rfl rfl rfl ?_
              rw [xu_xu]
              refine x_iload_n hC dX5_see_292 (q := 293) rfl rfl ?_
              refine x_if_eq hC dX5_see_293 (q := 296) rfl (tgt := 301) rfl (fun h293 => ?_) (fun h293 => ?_)
              · exact absurd h293 (by decide)
              refine x_bipush hC dX5_see_296 (q := 298) rfl (v := (6)) (by decide) ?_
              refine x_goto hC dX5_see_298 (tgt := 302) rfl ?_
              refine x_istore_n hC dX5_see_302 (q := 303) rfl rfl ?_
              refine x_aloadr_n hC dX5_see_303 (q := 304) rfl rfl ?_
              refine x_get hC xf_X5_67_4 dX5_see_304 (q := 307) rfl (n := (60, 0)) (xu_eq _ _ _) rfl ?_
              refine x_callV hC xv_X5_71 dX5_see_307 (q := 310) rfl rfl (m_J6_length h0 _ (n := (61, 0)) (nv := (62, 0)) (N := (c :: w).length) (f := sL (c :: w)) (by rw [xu_ne (by decide), xu_eq]) (by rw [xu_ne (by decide), xu_ne (by decide), xu_eq]) (by rw [List.length_cons]; omega)) (nn := (61, 0)) (by rw [xu_ne (by decide), xu_eq]) rfl rfl (Nat.le_of_ble_eq_true rfl) ⟨(Nat.le_of_ble_eq_true rfl), (Nat.le_of_ble_eq_true rfl)⟩ ⟨(Nat.le_of_ble_eq_true rfl), (Nat.le_of_ble_eq_true rfl)⟩ (fun v g1 hp => ?_)
              obtain ⟨rfl, hg1⟩ := hp
              replace hg1 := hg1.symm
              subst hg1
              refine x_iload_n hC dX5_see_310 (q := 311) rfl rfl ?_
              refine x_icmp_le hC dX5_see_311 (q := 314) rfl (tgt := 339) rfl (fun h311 => ?_) (fun h311 => ?_)
              · refine x_iload_n hC dX5_see_339 (q := 340) rfl rfl ?_
                refine x_if_ne hC dX5_see_340 (q := 343) rfl (tgt := 354) rfl (fun h340 => ?_) (fun h340 => ?_)
                · refine x_aloadr_n hC dX5_see_354 (q := 355) rfl rfl ?_
                  refine x_iload_n hC dX5_see_355 (q := 356) rfl rfl ?_
                  refine x_if_eq hC dX5_see_356 (q := 359) rfl (tgt := 363) rfl (fun h356 => ?_) (fun h356 => ?_)
                  · exact absurd h356 (by decide)
                  refine x_iconst hC dX5_see_359 (q := 360) rfl (v := (1)) (by decide) ?_
                  refine x_goto hC dX5_see_360 (tgt := 364) rfl ?_
                  refine x_put hC (n := (60, 0)) xf_X5_33_4 xd_4 rfl dX5_see_364 (q := 367) rfl (xu_eq _ _ _) rfl rfl rfl ?_
                  rw [xu_xu]
                  refine x_aloadr_n hC dX5_see_367 (q := 368) rfl rfl ?_
                  refine x_get hC xf_X5_33_4 dX5_see_368 (q := 371) rfl (n := (60, 0)) (xu_eq _ _ _) rfl ?_
                  exact x_iret hC hr dX5_see_371 (Nat.le_of_ble_eq_true rfl) (Nat.le_of_ble_eq_true rfl) ⟨a_262, d1, rfl, rfl⟩
                · exact absurd h340 (by decide)
              · exact absurd (show nI (c :: w).length ≤ nI 6 from nI_le (by rw [List.length_cons]; omega) (by decide)) h311
            have hj2 : (at0 + sp.length) + j < tx.length := by
              have := Nat.lt_of_not_le (fun q1 => h192 (show nI Z.1 ≤ nI ((at0 + sp.length) + j) from nI_le q1 (by omega)))
              omega
            have hy8 : (c :: w ++ L').getD j 0 < 128 := by rw [← drop_at hL2 j]; exact hA _
            refine x_iload_n hC dX5_see_195 (q := 196) rfl rfl ?_
            refine x_if_eq hC dX5_see_196 (q := 199) rfl (tgt := 221) rfl (fun h196 => ?_) (fun h196 => ?_)
            · exact absurd h196 (by decide)
            refine x_aloadr_n hC dX5_see_199 (q := 200) rfl rfl ?_
            refine x_aloadr_n hC dX5_see_200 (q := 201) rfl rfl ?_
            refine x_get hC xf_X5_3_4 dX5_see_201 (q := 204) rfl (n := (60, 0)) (xu_eq _ _ _) rfl ?_
            refine x_get hC xf_X5_39_1 dX5_see_204 (q := 207) rfl (n := (0, 0)) (by rw [xu_ne (by decide)]; exact hO) rfl ?_
            refine x_aloadr_n hC dX5_see_207 (q := 208) rfl rfl ?_
            refine x_get hC xf_X5_36_4 dX5_see_208 (q := 211) rfl (n := (60, 0)) (xu_eq _ _ _) rfl ?_
            refine x_cald hC dX5_see_211 (q := 212) rfl (n := (1, 0)) (by rw [xu_ne (by decide)]; exact hT) (j := (at0 + sp.length) + j) rfl (by omega) (by decide) ?_
            rw [hTx _ (by omega), drop_at hL2 j]
            refine x_callV hC xv_X5_46 dX5_see_212 (q := 215) rfl rfl (m_X5_isLetter h0 _ sc _) (nn := (60, 0)) (xu_eq _ _ _) rfl rfl (Nat.le_of_ble_eq_true rfl) ⟨(Nat.le_of_ble_eq_true rfl), (Nat.le_of_ble_eq_true rfl)⟩ ⟨(Nat.le_of_ble_eq_true rfl), (Nat.le_of_ble_eq_true rfl)⟩ (fun v g1 hp => ?_)
            obtain ⟨rfl, hg1⟩ := hp
            replace hg1 := hg1.symm
            subst hg1
            refine x_if_eq hC dX5_see_215 (q := 218) rfl (tgt := 253) rfl (fun h215 => ?_) (fun h215 => ?_)
            · have hj3 : j = w.length + 1 := by
                rcases Nat.lt_or_eq_of_le hj with e | e
                · have := all_getD hcc (j := j) (by rw [List.length_cons]; exact e)
                  rw [gD_app (by rw [List.length_cons]; exact e), if_pos ((chL_iff (by rw [← gD_app (v := L') (by rw [List.length_cons]; exact e)]; exact hy8)).mpr this)] at h215
                  exact absurd h215 (by decide)
                · exact e
              subst hj3
              refine x_aloadr_n hC dX5_see_253 (q := 254) rfl rfl ?_
              refine x_aloadr_n hC dX5_see_254 (q := 255) rfl rfl ?_
              refine x_get hC xf_X5_36_4 dX5_see_255 (q := 258) rfl (n := (60, 0)) (xu_eq _ _ _) rfl ?_
              rw [← iI_nat]
              refine x_put hC (n := (60, 0)) xf_X5_22_4 xd_4 rfl dX5_see_258 (q := 261) rfl (xu_eq _ _ _) rfl rfl rfl ?_
              rw [xu_xu]
              refine x_drop (61, 0) ?_
              refine x_drop (62, 0) ?_
              refine x_aloadr_n hC dX5_see_261 (q := 262) rfl rfl ?_
              refine x_new hC (fs := [.null, .int 0, .int 0, .int 0]) (61, 0) xc_23 q421 q422 q87 dX5_see_262 (q := 265) rfl rfl (by rw [xu_ne (by decide), xu_eq]) (fun j hj => by match j, hj with | 0, _ => rfl | 1, _ => rfl | 2, _ => rfl | 3, _ => rfl | j + 4, h => exact absurd h (by omega)) (Nat.le_of_ble_eq_true rfl) (Nat.le_of_ble_eq_true rfl) (fun a_262 => ?_)
              refine x_dup hC dX5_see_265 (q := 266) rfl rfl ?_
              refine x_aloadr_n hC dX5_see_266 (q := 267) rfl rfl ?_
              refine x_get hC xf_X5_3_4 dX5_see_267 (q := 270) rfl (n := (60, 0)) (by rw [xu_ne (by decide), xu_ne (by decide), xu_ne (by decide), xu_eq]) rfl ?_
              refine x_get hC xf_X5_39_1 dX5_see_270 (q := 273) rfl (n := (0, 0)) (by rw [xu_ne (by decide), xu_ne (by decide), xu_ne (by decide), xu_ne (by decide)]; exact hO) rfl ?_
              refine x_aloadr_n hC dX5_see_273 (q := 274) rfl rfl ?_
              refine x_get hC xf_X5_43_4 dX5_see_274 (q := 277) rfl (n := (60, 0)) (by rw [xu_ne (by decide), xu_ne (by decide), xu_ne (by decide), xu_eq]) rfl ?_
              refine x_aloadr_n hC dX5_see_277 (q := 278) rfl rfl ?_
              refine x_get hC xf_X5_36_4 dX5_see_278 (q := 281) rfl (n := (60, 0)) (by rw [xu_ne (by decide), xu_ne (by decide), xu_ne (by decide), xu_eq]) rfl ?_
              refine x_aloadr_n hC dX5_see_281 (q := 282) rfl rfl ?_
              refine x_get hC xf_X5_43_4 dX5_see_282 (q := 285) rfl (n := (60, 0)) (by rw [xu_ne (by decide), xu_ne (by decide), xu_ne (by decide), xu_eq]) rfl ?_
              refine x_isub hC dX5_see_285 (q := 286) rfl ?_
              rw [show nI ((at0 + sp.length) + (w.length + 1)) - nI (at0 + sp.length) = nI (c :: w).length by rw [nI_sub (by omega), Nat.add_sub_cancel_left]; rfl]
              refine x_callI hC xv_X5_64 dX5_see_286 (q := 289) rfl rfl (m_J6_init h0 _ (n := (61, 0)) (ns := (1, 0)) (nd := (62, 0)) (w := c :: w) (o := (at0 + sp.length)) (by rw [xu_ne (by decide), xu_ne (by decide), xu_ne (by decide), xu_ne (by decide)]; exact hT) (by decide) (by rw [List.length_cons]; omega) (fun k hk => by
                    rw [hTx _ (by rw [List.length_cons] at hk; omega), drop_at hL2 k, gD_app hk]) (fun k => by
                    rcases Nat.lt_or_ge k (c :: w).length with e | e
                    · have := hA ((at0 + sp.length) + k)
                      rw [drop_at hL2 k, gD_app e] at this
                      exact this
                    · rw [List.getD_eq_getElem?_getD, List.getElem?_eq_none e]; decide) rfl (by rw [xu_ne (by decide), xu_eq]) (by rw [List.length_cons]; omega) rfl (xu_eq _ _ _) (by rw [List.length_cons]; omega)) rfl (Nat.le_of_ble_eq_true rfl) ⟨(Nat.le_of_ble_eq_true rfl), (Nat.le_of_ble_eq_true rfl)⟩ ⟨(Nat.le_of_ble_eq_true rfl), (Nat.le_of_ble_eq_true rfl)⟩ (fun v g1 hp => ?_)
              obtain ⟨d1, rfl, hg1⟩ := hp
              rw [px3] at hg1
              replace hg1 := hg1.symm
              subst hg1
              refine x_put hC (n := (60, 0)) xf_X5_67_4 xd_4 rfl dX5_see_289 (q := 292) rfl (xu_eq _ _ _) rfl rfl rfl ?_
              rw [xu_xu]
              refine x_iload_n hC dX5_see_292 (q := 293) rfl rfl ?_
              refine x_if_eq hC dX5_see_293 (q := 296) rfl (tgt := 301) rfl (fun h293 => ?_) (fun h293 => ?_)
              · exact absurd h293 (by decide)
              refine x_bipush hC dX5_see_296 (q := 298) rfl (v := (6)) (by decide) ?_
              refine x_goto hC dX5_see_298 (tgt := 302) rfl ?_
              refine x_istore_n hC dX5_see_302 (q := 303) rfl rfl ?_
              refine x_aloadr_n hC dX5_see_303 (q := 304) rfl rfl ?_
              refine x_get hC xf_X5_67_4 dX5_see_304 (q := 307) rfl (n := (60, 0)) (xu_eq _ _ _) rfl ?_
              refine x_callV hC xv_X5_71 dX5_see_307 (q := 310) rfl rfl (m_J6_length h0 _ (n := (61, 0)) (nv := (62, 0)) (N := (c :: w).length) (f := sL (c :: w)) (by rw [xu_ne (by decide), xu_eq]) (by rw [xu_ne (by decide), xu_ne (by decide), xu_eq]) (by rw [List.length_cons]; omega)) (nn := (61, 0)) (by rw [xu_ne (by decide), xu_eq]) rfl rfl (Nat.le_of_ble_eq_true rfl) ⟨(Nat.le_of_ble_eq_true rfl), (Nat.le_of_ble_eq_true rfl)⟩ ⟨(Nat.le_of_ble_eq_true rfl), (Nat.le_of_ble_eq_true rfl)⟩ (fun v g1 hp => ?_)
              obtain ⟨rfl, hg1⟩ := hp
              replace hg1 := hg1.symm
              subst hg1
              refine x_iload_n hC dX5_see_310 (q := 311) rfl rfl ?_
              refine x_icmp_le hC dX5_see_311 (q := 314) rfl (tgt := 339) rfl (fun h311 => ?_) (fun h311 => ?_)
              · refine x_iload_n hC dX5_see_339 (q := 340) rfl rfl ?_
                refine x_if_ne hC dX5_see_340 (q := 343) rfl (tgt := 354) rfl (fun h340 => ?_) (fun h340 => ?_)
                · refine x_aloadr_n hC dX5_see_354 (q := 355) rfl rfl ?_
                  refine x_iload_n hC dX5_see_355 (q := 356) rfl rfl ?_
                  refine x_if_eq hC dX5_see_356 (q := 359) rfl (tgt := 363) rfl (fun h356 => ?_) (fun h356 => ?_)
                  · exact absurd h356 (by decide)
                  refine x_iconst hC dX5_see_359 (q := 360) rfl (v := (1)) (by decide) ?_
                  refine x_goto hC dX5_see_360 (tgt := 364) rfl ?_
                  refine x_put hC (n := (60, 0)) xf_X5_33_4 xd_4 rfl dX5_see_364 (q := 367) rfl (xu_eq _ _ _) rfl rfl rfl ?_
                  rw [xu_xu]
                  refine x_aloadr_n hC dX5_see_367 (q := 368) rfl rfl ?_
                  refine x_get hC xf_X5_33_4 dX5_see_368 (q := 371) rfl (n := (60, 0)) (xu_eq _ _ _) rfl ?_
                  exact x_iret hC hr dX5_see_371 (Nat.le_of_ble_eq_true rfl) (Nat.le_of_ble_eq_true rfl) ⟨a_262, d1, rfl, rfl⟩
                · exact absurd h340 (by decide)
              · exact absurd (show nI (c :: w).length ≤ nI 6 from nI_le (by rw [List.length_cons]; omega) (by decide)) h311
            have hj4 : j < w.length + 1 := by
              rcases Nat.lt_or_eq_of_le hj with e | e
              · exact e
              · exfalso
                apply h215
                rw [if_neg]
                intro q1
                have q2 := (chL_iff hy8).mp q1
                rw [gD_appr (by rw [List.length_cons]; omega), List.length_cons, e, Nat.sub_self, show L'.getD 0 0 = L'.headD 0 by cases L' <;> rfl, hH] at q2
                exact absurd q2 (by decide)
            refine x_goto hC dX5_see_218 (tgt := 240) rfl ?_
            refine x_aloadr_n hC dX5_see_240 (q := 241) rfl rfl ?_
            refine x_dup hC dX5_see_241 (q := 242) rfl rfl ?_
            refine x_get hC xf_X5_36_4 dX5_see_242 (q := 245) rfl (n := (60, 0)) (xu_eq _ _ _) rfl ?_
            refine x_iconst hC dX5_see_245 (q := 246) rfl (v := (1)) (by decide) ?_
            refine x_iadd hC dX5_see_246 (q := 247) rfl ?_
            rw [nI_1]
            refine x_put hC (n := (60, 0)) xf_X5_36_4 xd_4 rfl dX5_see_247 (q := 250) rfl (xu_eq _ _ _) rfl rfl rfl ?_
            rw [xu_xu]
            refine x_goto hC dX5_see_250 (tgt := 184) rfl ?_
            exact ih (j + 1) (by (try dsimp only); omega) (by (try dsimp only); omega)
          · exact absurd (show nI (at0 + sp.length) = iI bd from h168) (fun q => by
              rw [← iI_nat] at q
              exact hbd ((iI_eq ⟨by omega, by omega⟩ ⟨by omega, by omega⟩).mp q).symm)
        · exact absurd h124 (by decide)
      · exact absurd (show nI (at0 + sp.length) = nI Z.1 from h96) (fun q => by have := (nI_eq (by omega) (by omega)).mp q; omega)
    have hi2 : i < sp.length := by
      rcases Nat.lt_or_eq_of_le hi with e | e
      · exact e
      · have h32 := (nI_10 hx8).mp h54
        rw [hcs.2 e] at h32
        rw [h32] at hcS
        exact absurd hcS (by decide)
    refine x_aloadr_n hC dX5_see_57 (q := 58) rfl rfl ?_
    refine x_dup hC dX5_see_58 (q := 59) rfl rfl ?_
    refine x_get hC xf_X5_36_4 dX5_see_59 (q := 62) rfl (n := (60, 0)) (xu_eq _ _ _) rfl ?_
    refine x_iconst hC dX5_see_62 (q := 63) rfl (v := (1)) (by decide) ?_
    refine x_iadd hC dX5_see_63 (q := 64) rfl ?_
    rw [nI_1]
    refine x_put hC (n := (60, 0)) xf_X5_36_4 xd_4 rfl dX5_see_64 (q := 67) rfl (xu_eq _ _ _) rfl rfl rfl ?_
    rw [xu_xu]
    refine x_goto hC dX5_see_67 (tgt := 12) rfl ?_
    exact ih (i + 1) (by (try dsimp only); omega) (by (try dsimp only); omega)
  · exact absurd rfl h4

set_option maxHeartbeats 4000000 in
set_option maxRecDepth 100000 in
theorem m_X5_see_n {l : Launch} {s0 : State} {D : va_G} (h0 : x0 l s0 D) (g : xG) {sc : Nat} {Z : Nat × Nat × Nat} {tx : List Nat} {A V B : Nat → Nat} (hE : PE g Z tx A V B) {fr to at0 : Nat} {bd : Int} {pl nb wh op sg : Nat} {wd : Option Nat} {sp R : List Nat} {c : Nat} (hq : g (60, 0) = (some (sc, scO Z fr to (at0) bd pl nb wh op 0 sg wd))) (hat : at0 ≤ tx.length) (hL : tx.drop at0 = sp ++ c :: R) (hsp : sp.all chS = true) (hcS : chS c = false) {w L' : List Nat} (hR : R = w ++ L') (hcc : (c :: w).all chD = true) (hb1 : -1 ≤ bd) (hb2 : bd ≤ at0) (hbd : bd ≠ ((at0 + sp.length : Nat) : Int)) (hw : w.length ≤ 3) (hH : chD (L'.headD 0) = false)  : xMet l s0 D yX5_see cX5_see 4 (some .int) (xr 6 2 20 200) [.ref sc] g (fun r g1 => ∃ wa d1, r = some (.int 2) ∧ g1 = xu (xu (xu g (62, 0) (some (d1, xAi .byte (c :: w).length (sL (c :: w))))) (61, 0) (some (wa, xO 23 [.ref d1, .int 0, .int 0, .int 0]))) (60, 0) (some (sc, scO Z fr to ((at0 + sp.length) + (w.length + 1)) ((at0 + sp.length + (w.length + 1) : Nat) : Int) (at0 + sp.length) (sN (c :: w)) 2 op 1 sg (some wa)))) := by
  refine xMet.of h0 (by decide +kernel) rfl ?_
  intro zp ze zs zm za zb zf zc hC hr hnm
  have hcc1 : chD c = true := by rw [List.all_cons, Bool.and_eq_true] at hcc; exact hcc.1
  have hcD := hcc1
  have hcL : chL c = false := by
    unfold chD at hcD
    rw [Bool.and_eq_true, Nat.ble_eq, Nat.ble_eq] at hcD
    unfold chL
    rw [show Nat.ble 97 c = false from Bool.eq_false_iff.mpr (fun q => by rw [Nat.ble_eq] at q; omega)]
    rfl
  obtain ⟨⟨rest, ta, T, hO, hT, hTx⟩, hZ, hsz, hA, hK⟩ := hE
  have hlen := drop_len hL hat
  refine x_geq (g' := (xu g (60, 0) (some (sc, scO Z fr to (at0) bd pl nb wh op 0 sg wd)))) (xu_self hq).symm ?_
  refine x_aloadr_n hC dX5_see_0 (q := 1) rfl rfl ?_
  refine x_get hC xf_X5_29_4 dX5_see_1 (q := 4) rfl (n := (60, 0)) (xu_eq _ _ _) rfl ?_
  refine x_if_eq hC dX5_see_4 (q := 7) rfl (tgt := 12) rfl (fun h4 => ?_) (fun h4 => ?_)
  · refine x_loop (S := (fun i : Nat => ((0 : Nat), (0 : Nat), (xu g (60, 0) (some (sc, scO Z fr to (at0 + i) bd pl nb wh op 0 sg wd))), ([some (.ref sc), none, none, none] : xL), ([] : List Value)))) (Inv := fun i => i ≤ sp.length) (μ := fun i => sp.length - i) ?_ 0 (Nat.zero_le _)
    intro i hi ih
    dsimp only at hi ih ⊢
    refine x_aloadr_n hC dX5_see_12 (q := 13) rfl rfl ?_
    refine x_get hC xf_X5_36_4 dX5_see_13 (q := 16) rfl (n := (60, 0)) (xu_eq _ _ _) rfl ?_
    refine x_aloadr_n hC dX5_see_16 (q := 17) rfl rfl ?_
    refine x_get hC xf_X5_26_4 dX5_see_17 (q := 20) rfl (n := (60, 0)) (xu_eq _ _ _) rfl ?_
    refine x_icmp_ge hC dX5_see_20 (q := 23) rfl (tgt := 70) rfl (fun h20 => ?_) (fun h20 => ?_)
    · exact absurd (show nI Z.1 ≤ nI (at0 + i) from h20) (nI_ge (by rw [List.length_append, List.length_cons] at hlen; omega) (by omega))
    have hlen2 := hlen
    rw [List.length_append, List.length_cons] at hlen2
    have hx8 : (sp ++ c :: R).getD i 0 < 128 := by rw [← drop_at hL i]; exact hA _
    have hcs := sp_at (c := c) (L := R) hsp hi
    have hc8 : c < 128 := by
      have := hA (at0 + sp.length)
      rw [drop_at hL, (sp_at hsp (Nat.le_refl _)).2 rfl] at this
      exact this
    refine x_aloadr_n hC dX5_see_23 (q := 24) rfl rfl ?_
    refine x_get hC xf_X5_3_4 dX5_see_24 (q := 27) rfl (n := (60, 0)) (xu_eq _ _ _) rfl ?_
    refine x_get hC xf_X5_39_1 dX5_see_27 (q := 30) rfl (n := (0, 0)) (by rw [xu_ne (by decide)]; exact hO) rfl ?_
    refine x_aloadr_n hC dX5_see_30 (q := 31) rfl rfl ?_
    refine x_get hC xf_X5_36_4 dX5_see_31 (q := 34) rfl (n := (60, 0)) (xu_eq _ _ _) rfl ?_
    refine x_cald hC dX5_see_34 (q := 35) rfl (n := (1, 0)) (by rw [xu_ne (by decide)]; exact hT) (j := at0 + i) rfl (by omega) (by decide) ?_
    rw [hTx _ (by omega), drop_at hL i]
    refine x_bipush hC dX5_see_35 (q := 37) rfl (v := (32)) (by decide) ?_
    refine x_icmp_eq hC dX5_see_37 (q := 40) rfl (tgt := 57) rfl (fun h37 => ?_) (fun h37 => ?_)
    · have hi2 : i < sp.length := by
        rcases Nat.lt_or_eq_of_le hi with e | e
        · exact e
        · have h32 := (nI_32 hx8).mp h37
          rw [hcs.2 e] at h32
          rw [h32] at hcS
          exact absurd hcS (by decide)
      refine x_aloadr_n hC dX5_see_57 (q := 58) rfl rfl ?_
      refine x_dup hC dX5_see_58 (q := 59) rfl rfl ?_
      refine x_get hC xf_X5_36_4 dX5_see_59 (q := 62) rfl (n := (60, 0)) (xu_eq _ _ _) rfl ?_
      refine x_iconst hC dX5_see_62 (q := 63) rfl (v := (1)) (by decide) ?_
      refine x_iadd hC dX5_see_63 (q := 64) rfl ?_
      rw [nI_1]
      refine x_put hC (n := (60, 0)) xf_X5_36_4 xd_4 rfl dX5_see_64 (q := 67) rfl (xu_eq _ _ _) rfl rfl rfl ?_
      rw [xu_xu]
      refine x_goto hC dX5_see_67 (tgt := 12) rfl ?_
      exact ih (i + 1) (by (try dsimp only); omega) (by (try dsimp only); omega)
    refine x_aloadr_n hC dX5_see_40 (q := 41) rfl rfl ?_
    refine x_get hC xf_X5_3_4 dX5_see_41 (q := 44) rfl (n := (60, 0)) (xu_eq _ _ _) rfl ?_
    refine x_get hC xf_X5_39_1 dX5_see_44 (q := 47) rfl (n := (0, 0)) (by rw [xu_ne (by decide)]; exact hO) rfl ?_
    refine x_aloadr_n hC dX5_see_47 (q := 48) rfl rfl ?_
    refine x_get hC xf_X5_36_4 dX5_see_48 (q := 51) rfl (n := (60, 0)) (xu_eq _ _ _) rfl ?_
    refine x_cald hC dX5_see_51 (q := 52) rfl (n := (1, 0)) (by rw [xu_ne (by decide)]; exact hT) (j := at0 + i) rfl (by omega) (by decide) ?_
    rw [hTx _ (by omega), drop_at hL i]
    refine x_bipush hC dX5_see_52 (q := 54) rfl (v := (10)) (by decide) ?_
    refine x_icmp_ne hC dX5_see_54 (q := 57) rfl (tgt := 70) rfl (fun h54 => ?_) (fun h54 => ?_)
    · have hi3 : i = sp.length := by
        rcases Nat.lt_or_eq_of_le hi with e | e
        · rcases (chS_iff _).mp (hcs.1 e) with q | q
          · exact absurd ((nI_32 hx8).mpr q) h37
          · exact absurd ((nI_10 hx8).mpr q) h54
        · exact e
      subst hi3
      refine x_aloadr_n hC dX5_see_70 (q := 71) rfl rfl ?_
      refine x_aloadr_n hC dX5_see_71 (q := 72) rfl rfl ?_
      refine x_get hC xf_X5_36_4 dX5_see_72 (q := 75) rfl (n := (60, 0)) (xu_eq _ _ _) rfl ?_
      refine x_put hC (n := (60, 0)) xf_X5_43_4 xd_4 rfl dX5_see_75 (q := 78) rfl (xu_eq _ _ _) rfl rfl rfl ?_
      rw [xu_xu]
      refine x_aloadr_n hC dX5_see_78 (q := 79) rfl rfl ?_
      refine x_iconst hC dX5_see_79 (q := 80) rfl (v := (1)) (by decide) ?_
      refine x_put hC (n := (60, 0)) xf_X5_29_4 xd_4 rfl dX5_see_80 (q := 83) rfl (xu_eq _ _ _) rfl rfl rfl ?_
      rw [xu_xu]
      refine x_aloadr_n hC dX5_see_83 (q := 84) rfl rfl ?_
      refine x_iconst hC dX5_see_84 (q := 85) rfl (v := (0)) (by decide) ?_
      refine x_put hC (n := (60, 0)) xf_X5_33_4 xd_4 rfl dX5_see_85 (q := 88) rfl (xu_eq _ _ _) rfl rfl rfl ?_
      rw [xu_xu]
      refine x_aloadr_n hC dX5_see_88 (q := 89) rfl rfl ?_
      refine x_get hC xf_X5_36_4 dX5_see_89 (q := 92) rfl (n := (60, 0)) (xu_eq _ _ _) rfl ?_
      refine x_aloadr_n hC dX5_see_92 (q := 93) rfl rfl ?_
      refine x_get hC xf_X5_26_4 dX5_see_93 (q := 96) rfl (n := (60, 0)) (xu_eq _ _ _) rfl ?_
      refine x_icmp_ne hC dX5_see_96 (q := 99) rfl (tgt := 104) rfl (fun h96 => ?_) (fun h96 => ?_)
      · refine x_aloadr_n hC dX5_see_104 (q := 105) rfl rfl ?_
        refine x_get hC xf_X5_3_4 dX5_see_105 (q := 108) rfl (n := (60, 0)) (xu_eq _ _ _) rfl ?_
        refine x_get hC xf_X5_39_1 dX5_see_108 (q := 111) rfl (n := (0, 0)) (by rw [xu_ne (by decide)]; exact hO) rfl ?_
        refine x_aloadr_n hC dX5_see_111 (q := 112) rfl rfl ?_
        refine x_get hC xf_X5_36_4 dX5_see_112 (q := 115) rfl (n := (60, 0)) (xu_eq _ _ _) rfl ?_
        refine x_cald hC dX5_see_115 (q := 116) rfl (n := (1, 0)) (by rw [xu_ne (by decide)]; exact hT) (j := at0 + sp.length) rfl (by omega) (by decide) ?_
        rw [hTx _ (by omega), drop_at hL, (sp_at hsp (Nat.le_refl _)).2 rfl]
        refine x_istore_n hC dX5_see_116 (q := 117) rfl rfl ?_
        refine x_aloadr_n hC dX5_see_117 (q := 118) rfl rfl ?_
        refine x_iload_n hC dX5_see_118 (q := 119) rfl rfl ?_
        refine x_callV hC xv_X5_46 dX5_see_119 (q := 122) rfl rfl (m_X5_isLetter h0 _ sc (nI c)) (nn := (60, 0)) (xu_eq _ _ _) rfl rfl (Nat.le_of_ble_eq_true rfl) ⟨(Nat.le_of_ble_eq_true rfl), (Nat.le_of_ble_eq_true rfl)⟩ ⟨(Nat.le_of_ble_eq_true rfl), (Nat.le_of_ble_eq_true rfl)⟩ (fun v g1 hp => ?_)
        rw [if_neg (fun q => absurd ((chL_iff hc8).mp q) (by rw [hcL]; decide))] at hp
        obtain ⟨rfl, hg1⟩ := hp
        replace hg1 := hg1.symm
        subst hg1
        refine x_istore_n hC dX5_see_122 (q := 123) rfl rfl ?_
        refine x_iload_n hC dX5_see_123 (q := 124) rfl rfl ?_
        refine x_if_ne hC dX5_see_124 (q := 127) rfl (tgt := 160) rfl (fun h124 => ?_) (fun h124 => ?_)
        · exact absurd rfl h124
        refine x_aloadr_n hC dX5_see_127 (q := 128) rfl rfl ?_
        refine x_iload_n hC dX5_see_128 (q := 129) rfl rfl ?_
        refine x_callV hC xv_X5_50 dX5_see_129 (q := 132) rfl rfl (m_X5_isDigit h0 _ sc (nI c)) (nn := (60, 0)) (xu_eq _ _ _) rfl rfl (Nat.le_of_ble_eq_true rfl) ⟨(Nat.le_of_ble_eq_true rfl), (Nat.le_of_ble_eq_true rfl)⟩ ⟨(Nat.le_of_ble_eq_true rfl), (Nat.le_of_ble_eq_true rfl)⟩ (fun v g1 hp => ?_)
        rw [if_pos ((chD_iff hc8).mpr hcD)] at hp
        obtain ⟨rfl, hg1⟩ := hp
        replace hg1 := hg1.symm
        subst hg1
        refine x_if_ne hC dX5_see_132 (q := 135) rfl (tgt := 160) rfl (fun h132 => ?_) (fun h132 => ?_)
        · refine x_aloadr_n hC dX5_see_160 (q := 161) rfl rfl ?_
          refine x_get hC xf_X5_36_4 dX5_see_161 (q := 164) rfl (n := (60, 0)) (xu_eq _ _ _) rfl ?_
          refine x_aloadr_n hC dX5_see_164 (q := 165) rfl rfl ?_
          refine x_get hC xf_X5_22_4 dX5_see_165 (q := 168) rfl (n := (60, 0)) (xu_eq _ _ _) rfl ?_
          refine x_icmp_ne hC dX5_see_168 (q := 171) rfl (tgt := 184) rfl (fun h168 => ?_) (fun h168 => ?_)
          · have hL2 : tx.drop (at0 + sp.length) = c :: w ++ L' := by rw [hR] at hL; exact drop_more hL
            have hl2 := drop_len hL2 (by omega)
            rw [List.length_append, List.length_cons] at hl2
            refine x_loop (S := (fun j : Nat => ((0 : Nat), (0 : Nat), (xu g (60, 0) (some (sc, scO Z fr to ((at0 + sp.length) + j) bd (at0 + sp.length) nb 0 op 1 sg wd))), ([some (.ref sc), some (.int (nI c)), some (.int 0), none] : xL), ([] : List Value)))) (Inv := fun j => j ≤ w.length + 1) (μ := fun j => w.length + 1 - j) ?_ 0 (Nat.zero_le _)
            intro j hj ih
            dsimp only at hj ih ⊢
            refine x_aloadr_n hC dX5_see_184 (q := 185) rfl rfl ?_
            refine x_get hC xf_X5_36_4 dX5_see_185 (q := 188) rfl (n := (60, 0)) (xu_eq _ _ _) rfl ?_
            refine x_aloadr_n hC dX5_see_188 (q := 189) rfl rfl ?_
            refine x_get hC xf_X5_26_4 dX5_see_189 (q := 192) rfl (n := (60, 0)) (xu_eq _ _ _) rfl ?_
            refine x_icmp_ge hC dX5_see_192 (q := 195) rfl (tgt := 253) rfl (fun h192 => ?_) (fun h192 => ?_)
            · have hj3 : j = w.length + 1 := by
                have := (nI_leI (by omega) (by omega)).mp (show nI Z.1 ≤ nI ((at0 + sp.length) + j) from h192)
                omega
              subst hj3
              refine x_aloadr_n hC dX5_see_253 (q := 254) rfl rfl ?_
              refine x_aloadr_n hC dX5_see_254 (q := 255) rfl rfl ?_
              refine x_get hC xf_X5_36_4 dX5_see_255 (q := 258) rfl (n := (60, 0)) (xu_eq _ _ _) rfl ?_
              rw [← iI_nat]
              refine x_put hC (n := (60, 0)) xf_X5_22_4 xd_4 rfl dX5_see_258 (q := 261) rfl (xu_eq _ _ _) rfl rfl rfl ?_
              rw [xu_xu]
              refine x_drop (61, 0) ?_
              refine x_drop (62, 0) ?_
              refine x_aloadr_n hC dX5_see_261 (q := 262) rfl rfl ?_
              refine x_new hC (fs := [.null, .int 0, .int 0, .int 0]) (61, 0) xc_23 q421 q422 q87 dX5_see_262 (q := 265) rfl rfl (by rw [xu_ne (by decide), xu_eq]) (fun j hj => by match j, hj with | 0, _ => rfl | 1, _ => rfl | 2, _ => rfl | 3, _ => rfl | j + 4, h => exact absurd h (by omega)) (Nat.le_of_ble_eq_true rfl) (Nat.le_of_ble_eq_true rfl) (fun a_262 => ?_)
              refine x_dup hC dX5_see_265 (q := 266) rfl rfl ?_
              refine x_aloadr_n hC dX5_see_266 (q := 267) rfl rfl ?_
              refine x_get hC xf_X5_3_4 dX5_see_267 (q := 270) rfl (n := (60, 0)) (by rw [xu_ne (by decide), xu_ne (by decide), xu_ne (by decide), xu_eq]) rfl ?_
              refine x_get hC xf_X5_39_1 dX5_see_270 (q := 273) rfl (n := (0, 0)) (by rw [xu_ne (by decide), xu_ne (by decide), xu_ne (by decide), xu_ne (by decide)]; exact hO) rfl ?_
              refine x_aloadr_n hC dX5_see_273 (q := 274) rfl rfl ?_
              refine x_get hC xf_X5_43_4 dX5_see_274 (q := 277) rfl (n := (60, 0)) (by rw [xu_ne (by decide), xu_ne (by decide), xu_ne (by decide), xu_eq]) rfl ?_
              refine x_aloadr_n hC dX5_see_277 (q := 278) rfl rfl ?_
              refine x_get hC xf_X5_36_4 dX5_see_278 (q := 281) rfl (n := (60, 0)) (by rw [xu_ne (by decide), xu_ne (by decide), xu_ne (by decide), xu_eq]) rfl ?_
              refine x_aloadr_n hC dX5_see_281 (q := 282) rfl rfl ?_
              refine x_get hC xf_X5_43_4 dX5_see_282 (q := 285) rfl (n := (60, 0)) (by rw [xu_ne (by decide), xu_ne (by decide), xu_ne (by decide), xu_eq]) rfl ?_
              refine x_isub hC dX5_see_285 (q := 286) rfl ?_
              rw [show nI ((at0 + sp.length) + (w.length + 1)) - nI (at0 + sp.length) = nI (c :: w).length by rw [nI_sub (by omega), Nat.add_sub_cancel_left]; rfl]
              refine x_callI hC xv_X5_64 dX5_see_286 (q := 289) rfl rfl (m_J6_init h0 _ (n := (61, 0)) (ns := (1, 0)) (nd := (62, 0)) (w := c :: w) (o := (at0 + sp.length)) (by rw [xu_ne (by decide), xu_ne (by decide), xu_ne (by decide), xu_ne (by decide)]; exact hT) (by decide) (by rw [List.length_cons]; omega) (fun k hk => by
                    rw [hTx _ (by rw [List.length_cons] at hk; omega), drop_at hL2 k, gD_app hk]) (fun k => by
                    rcases Nat.lt_or_ge k (c :: w).length with e | e
                    · have := hA ((at0 + sp.length) + k)
                      rw [drop_at hL2 k, gD_app e] at this
                      exact this
                    · rw [List.getD_eq_getElem?_getD, List.getElem?_eq_none e]; decide) rfl (by rw [xu_ne (by decide), xu_eq]) (by rw [List.length_cons]; omega) rfl (xu_eq _ _ _) (by rw [List.length_cons]; omega)) rfl (Nat.le_of_ble_eq_true rfl) ⟨(Nat.le_of_ble_eq_true rfl), (Nat.le_of_ble_eq_true rfl)⟩ ⟨(Nat.le_of_ble_eq_true rfl), (Nat.le_of_ble_eq_true rfl)⟩ (fun v g1 hp => ?_)
              obtain ⟨d1, rfl, hg1⟩ := hp
              rw [px3] at hg1
              replace hg1 := hg1.symm
              subst hg1
              refine x_put hC (n := (60, 0)) xf_X5_67_4 xd_4 rfl dX5_see_289 (q := 292) rfl (xu_eq _ _ _) rfl rfl rfl ?_
              rw [xu_xu]
              refine x_iload_n hC dX5_see_292 (q := 293) rfl rfl ?_
              refine x_if_eq hC dX5_see_293 (q := 296) rfl (tgt := 301) rfl (fun h293 => ?_) (fun h293 => ?_)
              · refine x_iconst hC dX5_see_301 (q := 302) rfl (v := (4)) (by decide) ?_
                refine x_istore_n hC dX5_see_302 (q := 303) rfl rfl ?_
                refine x_aloadr_n hC dX5_see_303 (q := 304) rfl rfl ?_
                refine x_get hC xf_X5_67_4 dX5_see_304 (q := 307) rfl (n := (60, 0)) (xu_eq _ _ _) rfl ?_
                refine x_callV hC xv_X5_71 dX5_see_307 (q := 310) rfl rfl (m_J6_length h0 _ (n := (61, 0)) (nv := (62, 0)) (N := (c :: w).length) (f := sL (c :: w)) (by rw [xu_ne (by decide), xu_eq]) (by rw [xu_ne (by decide), xu_ne (by decide), xu_eq]) (by rw [List.length_cons]; omega)) (nn := (61, 0)) (by rw [xu_ne (by decide), xu_eq]) rfl rfl (Nat.le_of_ble_eq_true rfl) ⟨(Nat.le_of_ble_eq_true rfl), (Nat.le_of_ble_eq_true rfl)⟩ ⟨(Nat.le_of_ble_eq_true rfl), (Nat.le_of_ble_eq_true rfl)⟩ (fun v g1 hp => ?_)
                obtain ⟨rfl, hg1⟩ := hp
                replace hg1 := hg1.symm
                subst hg1
                refine x_iload_n hC dX5_see_310 (q := 311) rfl rfl ?_
                refine x_icmp_le hC dX5_see_311 (q := 314) rfl (tgt := 339) rfl (fun h311 => ?_) (fun h311 => ?_)
                · refine x_iload_n hC dX5_see_339 (q := 340) rfl rfl ?_
                  refine x_if_ne hC dX5_see_340 (q := 343) rfl (tgt := 354) rfl (fun h340 => ?_) (fun h340 => ?_)
                  · exact absurd rfl h340
                  have hAw : sA (c :: w) := fun k => by
                    rcases Nat.lt_or_ge k (c :: w).length with e | e
                    · have := hA ((at0 + sp.length) + k)
                      rw [drop_at hL2 k, gD_app e] at this
                      exact this
                    · rw [List.getD_eq_getElem?_getD, List.getElem?_eq_none e]; decide
                  refine x_aloadr_n hC dX5_see_343 (q := 344) rfl rfl ?_
                  refine x_aloadr_n hC dX5_see_344 (q := 345) rfl rfl ?_
                  refine x_get hC xf_X5_67_4 dX5_see_345 (q := 348) rfl (n := (60, 0)) (xu_eq _ _ _) rfl ?_
                  refine x_callSN hC xv_X5_79 dX5_see_348 (q := 351) rfl rfl (m_X2_digitsOf h0 _ (n := (61, 0)) (nv := (62, 0)) (w := c :: w) (by rw [xu_ne (by decide), xu_eq]) (by rw [xu_ne (by decide), xu_ne (by decide), xu_eq]) hAw hcc (by rw [List.length_cons]; omega)) rfl (Nat.le_of_ble_eq_true rfl) ⟨(Nat.le_of_ble_eq_true rfl), (Nat.le_of_ble_eq_true rfl)⟩ ⟨(Nat.le_of_ble_eq_true rfl), (Nat.le_of_ble_eq_true rfl)⟩ (fun v g1 hp => ?_)
                  obtain ⟨rfl, hg1⟩ := hp
                  replace hg1 := hg1.symm
                  subst hg1
                  refine x_put hC (n := (60, 0)) xf_X5_83_4 xd_4 rfl dX5_see_351 (q := 354) rfl (xu_eq _ _ _) rfl rfl rfl ?_
                  rw [xu_xu]
                  refine x_aloadr_n hC dX5_see_354 (q := 355) rfl rfl ?_
                  refine x_iload_n hC dX5_see_355 (q := 356) rfl rfl ?_
                  refine x_if_eq hC dX5_see_356 (q := 359) rfl (tgt := 363) rfl (fun h356 => ?_) (fun h356 => ?_)
                  · refine x_iconst hC dX5_see_363 (q := 364) rfl (v := (2)) (by decide) ?_
                    refine x_put hC (n := (60, 0)) xf_X5_33_4 xd_4 rfl dX5_see_364 (q := 367) rfl (xu_eq _ _ _) rfl rfl rfl ?_
                    rw [xu_xu]
                    refine x_aloadr_n hC dX5_see_367 (q := 368) rfl rfl ?_
                    refine x_get hC xf_X5_33_4 dX5_see_368 (q := 371) rfl (n := (60, 0)) (xu_eq _ _ _) rfl ?_
                    exact x_iret hC hr dX5_see_371 (Nat.le_of_ble_eq_true rfl) (Nat.le_of_ble_eq_true rfl) ⟨a_262, d1, rfl, rfl⟩
                  · exact absurd rfl h356
                · exact absurd (show nI (c :: w).length ≤ nI 4 from nI_le (by rw [List.length_cons]; omega) (by decide)) h311
              · exact absurd rfl h293
            have hj2 : (at0 + sp.length) + j < tx.length := by
              have := Nat.lt_of_not_le (fun q1 => h192 (show nI Z.1 ≤ nI ((at0 + sp.length) + j) from nI_le q1 (by omega)))
              omega
            have hy8 : (c :: w ++ L').getD j 0 < 128 := by rw [← drop_at hL2 j]; exact hA _
            refine x_iload_n hC dX5_see_195 (q := 196) rfl rfl ?_
            refine x_if_eq hC dX5_see_196 (q := 199) rfl (tgt := 221) rfl (fun h196 => ?_) (fun h196 => ?_)
            · refine x_aloadr_n hC dX5_see_221 (q := 222) rfl rfl ?_
              refine x_aloadr_n hC dX5_see_222 (q := 223) rfl rfl ?_
              refine x_get hC xf_X5_3_4 dX5_see_223 (q := 226) rfl (n := (60, 0)) (xu_eq _ _ _) rfl ?_
              refine x_get hC xf_X5_39_1 dX5_see_226 (q := 229) rfl (n := (0, 0)) (by rw [xu_ne (by decide)]; exact hO) rfl ?_
              refine x_aloadr_n hC dX5_see_229 (q := 230) rfl rfl ?_
              refine x_get hC xf_X5_36_4 dX5_see_230 (q := 233) rfl (n := (60, 0)) (xu_eq _ _ _) rfl ?_
              refine x_cald hC dX5_see_233 (q := 234) rfl (n := (1, 0)) (by rw [xu_ne (by decide)]; exact hT) (j := (at0 + sp.length) + j) rfl (by omega) (by decide) ?_
              rw [hTx _ (by omega), drop_at hL2 j]
              refine x_callV hC xv_X5_50 dX5_see_234 (q := 237) rfl rfl (m_X5_isDigit h0 _ sc _) (nn := (60, 0)) (xu_eq _ _ _) rfl rfl (Nat.le_of_ble_eq_true rfl) ⟨(Nat.le_of_ble_eq_true rfl), (Nat.le_of_ble_eq_true rfl)⟩ ⟨(Nat.le_of_ble_eq_true rfl), (Nat.le_of_ble_eq_true rfl)⟩ (fun v g1 hp => ?_)
              obtain ⟨rfl, hg1⟩ := hp
              replace hg1 := hg1.symm
              subst hg1
              refine x_if_eq hC dX5_see_237 (q := 240) rfl (tgt := 253) rfl (fun h237 => ?_) (fun h237 => ?_)
              · have hj3 : j = w.length + 1 := by
                  rcases Nat.lt_or_eq_of_le hj with e | e
                  · have := all_getD hcc (j := j) (by rw [List.length_cons]; exact e)
                    rw [gD_app (by rw [List.length_cons]; exact e), if_pos ((chD_iff (by rw [← gD_app (v := L') (by rw [List.length_cons]; exact e)]; exact hy8)).mpr this)] at h237
                    exact absurd h237 (by decide)
                  · exact e
                subst hj3
                refine x_aloadr_n hC dX5_see_253 (q := 254) rfl rfl ?_
                refine x_aloadr_n hC dX5_see_254 (q := 255) rfl rfl ?_
                refine x_get hC xf_X5_36_4 dX5_see_255 (q := 258) rfl (n := (60, 0)) (xu_eq _ _ _) rfl ?_
                rw [← iI_nat]
                refine x_put hC (n := (60, 0)) xf_X5_22_4 xd_4 rfl dX5_see_258 (q := 261) rfl (xu_eq _ _ _) rfl rfl rfl ?_
                rw [xu_xu]
                refine x_drop (61, 0) ?_
                refine x_drop (62, 0) ?_
                refine x_aloadr_n hC dX5_see_261 (q := 262) rfl rfl ?_
                refine x_new hC (fs := [.null, .int 0, .int 0, .int 0]) (61, 0) xc_23 q421 q422 q87 dX5_see_262 (q := 265) rfl rfl (by rw [xu_ne (by decide), xu_eq]) (fun j hj => by match j, hj with | 0, _ => rfl | 1, _ => rfl | 2, _ => rfl | 3, _ => rfl | j + 4, h => exact absurd h (by omega)) (Nat.le_of_ble_eq_true rfl) (Nat.le_of_ble_eq_true rfl) (fun a_262 => ?_)
                refine x_dup hC dX5_see_265 (q := 266) rfl rfl ?_
                refine x_aloadr_n hC dX5_see_266 (q := 267) rfl rfl ?_
                refine x_get hC xf_X5_3_4 dX5_see_267 (q := 270) rfl (n := (60, 0)) (by rw [xu_ne (by decide), xu_ne (by decide), xu_ne (by decide), xu_eq]) rfl ?_
                refine x_get hC xf_X5_39_1 dX5_see_270 (q := 273) rfl (n := (0, 0)) (by rw [xu_ne (by decide), xu_ne (by decide), xu_ne (by decide), xu_ne (by decide)]; exact hO) rfl ?_
                refine x_aloadr_n hC dX5_see_273 (q := 274) rfl rfl ?_
                refine x_get hC xf_X5_43_4 dX5_see_274 (q := 277) rfl (n := (60, 0)) (by rw [xu_ne (by decide), xu_ne (by decide), xu_ne (by decide), xu_eq]) rfl ?_
                refine x_aloadr_n hC dX5_see_277 (q := 278) rfl rfl ?_
                refine x_get hC xf_X5_36_4 dX5_see_278 (q := 281) rfl (n := (60, 0)) (by rw [xu_ne (by decide), xu_ne (by decide), xu_ne (by decide), xu_eq]) rfl ?_
                refine x_aloadr_n hC dX5_see_281 (q := 282) rfl rfl ?_
                refine x_get hC xf_X5_43_4 dX5_see_282 (q := 285) rfl (n := (60, 0)) (by rw [xu_ne (by decide), xu_ne (by decide), xu_ne (by decide), xu_eq]) rfl ?_
                refine x_isub hC dX5_see_285 (q := 286) rfl ?_
                rw [show nI ((at0 + sp.length) + (w.length + 1)) - nI (at0 + sp.length) = nI (c :: w).length by rw [nI_sub (by omega), Nat.add_sub_cancel_left]; rfl]
                refine x_callI hC xv_X5_64 dX5_see_286 (q := 289) rfl rfl (m_J6_init h0 _ (n := (61, 0)) (ns := (1, 0)) (nd := (62, 0)) (w := c :: w) (o := (at0 + sp.length)) (by rw [xu_ne (by decide), xu_ne (by decide), xu_ne (by decide), xu_ne (by decide)]; exact hT) (by decide) (by rw [List.length_cons]; omega) (fun k hk => by
                      rw [hTx _ (by rw [List.length_cons] at hk; omega), drop_at hL2 k, gD_app hk]) (fun k => by
                      rcases Nat.lt_or_ge k (c :: w).length with e | e
                      · have := hA ((at0 + sp.length) + k)
                        rw [drop_at hL2 k, gD_app e] at this
                        exact this
                      · rw [List.getD_eq_getElem?_getD, List.getElem?_eq_none e]; decide) rfl (by rw [xu_ne (by decide), xu_eq]) (by rw [List.length_cons]; omega) rfl (xu_eq _ _ _) (by rw [List.length_cons]; omega)) rfl (Nat.le_of_ble_eq_true rfl) ⟨(Nat.le_of_ble_eq_true rfl), (Nat.le_of_ble_eq_true rfl)⟩ ⟨(Nat.le_of_ble_eq_true rfl), (Nat.le_of_ble_eq_true rfl)⟩ (fun v g1 hp => ?_)
                obtain ⟨d1, rfl, hg1⟩ := hp
                rw [px3] at hg1
                replace hg1 := hg1.symm
                subst hg1
                refine x_put hC (n := (60, 0)) xf_X5_67_4 xd_4 rfl dX5_see_289 (q := 292) rfl (xu_eq _ _ _) rfl rfl rfl ?_
                rw [xu_xu]
                refine x_iload_n hC dX5_see_292 (q := 293) rfl rfl ?_
                refine x_if_eq hC dX5_see_293 (q := 296) rfl (tgt := 301) rfl (fun h293 => ?_) (fun h293 => ?_)
                · refine x_iconst hC dX5_see_301 (q := 302) rfl (v := (4)) (by decide) ?_
                  refine x_istore_n hC dX5_see_302 (q := 303) rfl rfl ?_
                  refine x_aloadr_n hC dX5_see_303 (q := 304) rfl rfl ?_
                  refine x_get hC xf_X5_67_4 dX5_see_304 (q := 307) rfl (n := (60, 0)) (xu_eq _ _ _) rfl ?_
                  refine x_callV hC xv_X5_71 dX5_see_307 (q := 310) rfl rfl (m_J6_length h0 _ (n := (61, 0)) (nv := (62, 0)) (N := (c :: w).length) (f := sL (c :: w)) (by rw [xu_ne (by decide), xu_eq]) (by rw [xu_ne (by decide), xu_ne (by decide), xu_eq]) (by rw [List.length_cons]; omega)) (nn := (61, 0)) (by rw [xu_ne (by decide), xu_eq]) rfl rfl (Nat.le_of_ble_eq_true rfl) ⟨(Nat.le_of_ble_eq_true rfl), (Nat.le_of_ble_eq_true rfl)⟩ ⟨(Nat.le_of_ble_eq_true rfl), (Nat.le_of_ble_eq_true rfl)⟩ (fun v g1 hp => ?_)
                  obtain ⟨rfl, hg1⟩ := hp
                  replace hg1 := hg1.symm
                  subst hg1
                  refine x_iload_n hC dX5_see_310 (q := 311) rfl rfl ?_
                  refine x_icmp_le hC dX5_see_311 (q := 314) rfl (tgt := 339) rfl (fun h311 => ?_) (fun h311 => ?_)
                  · refine x_iload_n hC dX5_see_339 (q := 340) rfl rfl ?_
                    refine x_if_ne hC dX5_see_340 (q := 343) rfl (tgt := 354) rfl (fun h340 => ?_) (fun h340 => ?_)
                    · exact absurd rfl h340
                    have hAw : sA (c :: w) := fun k => by
                      rcases Nat.lt_or_ge k (c :: w).length with e | e
                      · have := hA ((at0 + sp.length) + k)
                        rw [drop_at hL2 k, gD_app e] at this
                        exact this
                      · rw [List.getD_eq_getElem?_getD, List.getElem?_eq_none e]; decide
                    refine x_aloadr_n hC dX5_see_343 (q := 344) rfl rfl ?_
                    refine x_aloadr_n hC dX5_see_344 (q := 345) rfl rfl ?_
                    refine x_get hC xf_X5_67_4 dX5_see_345 (q := 348) rfl (n := (60, 0)) (xu_eq _ _ _) rfl ?_
                    refine x_callSN hC xv_X5_79 dX5_see_348 (q := 351) rfl rfl (m_X2_digitsOf h0 _ (n := (61, 0)) (nv := (62, 0)) (w := c :: w) (by rw [xu_ne (by decide), xu_eq]) (by rw [xu_ne (by decide), xu_ne (by decide), xu_eq]) hAw hcc (by rw [List.length_cons]; omega)) rfl (Nat.le_of_ble_eq_true rfl) ⟨(Nat.le_of_ble_eq_true rfl), (Nat.le_of_ble_eq_true rfl)⟩ ⟨(Nat.le_of_ble_eq_true rfl), (Nat.le_of_ble_eq_true rfl)⟩ (fun v g1 hp => ?_)
                    obtain ⟨rfl, hg1⟩ := hp
                    replace hg1 := hg1.symm
                    subst hg1
                    refine x_put hC (n := (60, 0)) xf_X5_83_4 xd_4 rfl dX5_see_351 (q := 354) rfl (xu_eq _ _ _) rfl rfl rfl ?_
                    rw [xu_xu]
                    refine x_aloadr_n hC dX5_see_354 (q := 355) rfl rfl ?_
                    refine x_iload_n hC dX5_see_355 (q := 356) rfl rfl ?_
                    refine x_if_eq hC dX5_see_356 (q := 359) rfl (tgt := 363) rfl (fun h356 => ?_) (fun h356 => ?_)
                    · refine x_iconst hC dX5_see_363 (q := 364) rfl (v := (2)) (by decide) ?_
                      refine x_put hC (n := (60, 0)) xf_X5_33_4 xd_4 rfl dX5_see_364 (q := 367) rfl (xu_eq _ _ _) rfl rfl rfl ?_
                      rw [xu_xu]
                      refine x_aloadr_n hC dX5_see_367 (q := 368) rfl rfl ?_
                      refine x_get hC xf_X5_33_4 dX5_see_368 (q := 371) rfl (n := (60, 0)) (xu_eq _ _ _) rfl ?_
                      exact x_iret hC hr dX5_see_371 (Nat.le_of_ble_eq_true rfl) (Nat.le_of_ble_eq_true rfl) ⟨a_262, d1, rfl, rfl⟩
                    · exact absurd rfl h356
                  · exact absurd (show nI (c :: w).length ≤ nI 4 from nI_le (by rw [List.length_cons]; omega) (by decide)) h311
                · exact absurd rfl h293
              have hj4 : j < w.length + 1 := by
                rcases Nat.lt_or_eq_of_le hj with e | e
                · exact e
                · exfalso
                  apply h237
                  rw [if_neg]
                  intro q1
                  have q2 := (chD_iff hy8).mp q1
                  rw [gD_appr (by rw [List.length_cons]; omega), List.length_cons, e, Nat.sub_self, show L'.getD 0 0 = L'.headD 0 by cases L' <;> rfl, hH] at q2
                  exact absurd q2 (by decide)
              refine x_aloadr_n hC dX5_see_240 (q := 241) rfl rfl ?_
              refine x_dup hC dX5_see_241 (q := 242) rfl rfl ?_
              refine x_get hC xf_X5_36_4 dX5_see_242 (q := 245) rfl (n := (60, 0)) (xu_eq _ _ _) rfl ?_
              refine x_iconst hC dX5_see_245 (q := 246) rfl (v := (1)) (by decide) ?_
              refine x_iadd hC dX5_see_246 (q := 247) rfl ?_
              rw [nI_1]
              refine x_put hC (n := (60, 0)) xf_X5_36_4 xd_4 rfl dX5_see_247 (q := 250) rfl (xu_eq _ _ _) rfl rfl rfl ?_
              rw [xu_xu]
              refine x_goto hC dX5_see_250 (tgt := 184) rfl ?_
              exact ih (j + 1) (by (try dsimp only); omega) (by (try dsimp only); omega)
            · exact absurd rfl h196
          · exact absurd (show nI (at0 + sp.length) = iI bd from h168) (fun q => by
              rw [← iI_nat] at q
              exact hbd ((iI_eq ⟨by omega, by omega⟩ ⟨by omega, by omega⟩).mp q).symm)
        · exact absurd h132 (by decide)
      · exact absurd (show nI (at0 + sp.length) = nI Z.1 from h96) (fun q => by have := (nI_eq (by omega) (by omega)).mp q; omega)
    have hi2 : i < sp.length := by
      rcases Nat.lt_or_eq_of_le hi with e | e
      · exact e
      · have h32 := (nI_10 hx8).mp h54
        rw [hcs.2 e] at h32
        rw [h32] at hcS
        exact absurd hcS (by decide)
    refine x_aloadr_n hC dX5_see_57 (q := 58) rfl rfl ?_
    refine x_dup hC dX5_see_58 (q := 59) rfl rfl ?_
    refine x_get hC xf_X5_36_4 dX5_see_59 (q := 62) rfl (n := (60, 0)) (xu_eq _ _ _) rfl ?_
    refine x_iconst hC dX5_see_62 (q := 63) rfl (v := (1)) (by decide) ?_
    refine x_iadd hC dX5_see_63 (q := 64) rfl ?_
    rw [nI_1]
    refine x_put hC (n := (60, 0)) xf_X5_36_4 xd_4 rfl dX5_see_64 (q := 67) rfl (xu_eq _ _ _) rfl rfl rfl ?_
    rw [xu_xu]
    refine x_goto hC dX5_see_67 (tgt := 12) rfl ?_
    exact ih (i + 1) (by (try dsimp only); omega) (by (try dsimp only); omega)
  · exact absurd rfl h4
