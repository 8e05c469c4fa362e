/-! the law's cases (printed by gen/genlaw.py) -/
set_option maxRecDepth 100000
set_option maxHeartbeats 4000000 in
theorem lc_profile {X : jX} {D : va_G} {l : Launch} {c k n sn : Nat} {i : Int32} {sc : Option jO} {hx hm : jH} {g : Nat → Int32} (hDl : jDl X D l) (hRm : jRoom X 2048 94400 603072 7262314) (hl : jNT l) (hc : c < 64) (hR : Rst c hx hm) (hsc : ∀ h1 h2 : jH, h1 1 = some cMost → ∀ q, q < 6 → jaI (mg sc h1 h2) sn .int (i + Int32.ofNat q) = some (g q)) (hk : k ≤ 500000) (hn : n ≤ 7000000) (next : ∀ h1 h2 hy : jH, jsub hy h1 → Rst (c + 1) hy h2 → J X cL_law 4 yL (k + 100) (n + 5000) 1266 [some (.ref sn), some (.ref 26), some (.ref 27), some (.int i)] [] (mg sc h1 h2)) : J X cL_law 4 yL k n 188 [some (.ref sn), some (.ref 26), some (.ref 27), some (.int i)] [] (mg sc hx hm) := by
  obtain ⟨r, hx', hm', hy, f1, f2, hs, hR'⟩ := (law_profile (g 1) (g 2) (g 3) (g 4)).S c hx hm hc hR
  have m1 : hx' 1 = some cMost := (hs 1 _ (Rst_1 hR')).1
  refine J.aload_n (i := 1) dL_law_188 rfl rfl ?_
  refine J.aload_n (i := 0) dL_law_189 rfl rfl ?_
  refine J.iload_n (i := 3) dL_law_190 rfl rfl ?_
  refine J.iconst (v := 1) dL_law_191 (by decide) ?_
  refine J.iadd dL_law_192 ?_
  refine J.iald (hsc hx hm (Rst_1 hR) 1 (by decide)) dL_law_193 ?_
  refine J.aload_n (i := 0) dL_law_194 rfl rfl ?_
  refine J.iload_n (i := 3) dL_law_195 rfl rfl ?_
  refine J.iconst (v := 2) dL_law_196 (by decide) ?_
  refine J.iadd dL_law_197 ?_
  refine J.iald (hsc hx hm (Rst_1 hR) 2 (by decide)) dL_law_198 ?_
  refine J.aload_n (i := 0) dL_law_199 rfl rfl ?_
  refine J.iload_n (i := 3) dL_law_200 rfl rfl ?_
  refine J.iconst (v := 3) dL_law_201 (by decide) ?_
  refine J.iadd dL_law_202 ?_
  refine J.iald (hsc hx hm (Rst_1 hR) 3 (by decide)) dL_law_203 ?_
  refine J.aload_n (i := 0) dL_law_204 rfl rfl ?_
  refine J.iload_n (i := 3) dL_law_205 rfl rfl ?_
  refine J.iconst (v := 4) dL_law_206 (by decide) ?_
  refine J.iadd dL_law_207 ?_
  refine J.iald (hsc hx hm (Rst_1 hR) 4 (by decide)) dL_law_208 ?_
  refine J.callV (As := [.int (g 1), .int (g 2), .int (g 3), .int (g 4)]) (k2 := k + 50) (n2 := n + 2500) 0 hDl hRm (bigX (as := [g 1, g 2, g 3, g 4]) (Rst_d1 hR) (w_X0_profile f1) rfl) (lw_V q230 q231 q232 q39 q233) hd_X0_profile rfl (is26 (Rst_8 hR).choose_spec) rfl (Nat.le_of_ble_eq_true rfl) (Nat.le_of_ble_eq_true rfl) (Nat.add_le_add_left (Nat.le_of_ble_eq_true rfl) _) (Nat.add_le_add_left (Nat.le_of_ble_eq_true rfl) _) (by omega) (by omega) (Nat.le_of_ble_eq_true rfl) rfl dL_law_209 ?_
  refine J.aload_n (i := 2) dL_law_212 rfl rfl ?_
  refine J.aload_n (i := 0) dL_law_213 rfl rfl ?_
  refine J.iload_n (i := 3) dL_law_214 rfl rfl ?_
  refine J.iconst (v := 1) dL_law_215 (by decide) ?_
  refine J.iadd dL_law_216 ?_
  refine J.iald (hsc hx' hm m1 1 (by decide)) dL_law_217 ?_
  refine J.aload_n (i := 0) dL_law_218 rfl rfl ?_
  refine J.iload_n (i := 3) dL_law_219 rfl rfl ?_
  refine J.iconst (v := 2) dL_law_220 (by decide) ?_
  refine J.iadd dL_law_221 ?_
  refine J.iald (hsc hx' hm m1 2 (by decide)) dL_law_222 ?_
  refine J.aload_n (i := 0) dL_law_223 rfl rfl ?_
  refine J.iload_n (i := 3) dL_law_224 rfl rfl ?_
  refine J.iconst (v := 3) dL_law_225 (by decide) ?_
  refine J.iadd dL_law_226 ?_
  refine J.iald (hsc hx' hm m1 3 (by decide)) dL_law_227 ?_
  refine J.aload_n (i := 0) dL_law_228 rfl rfl ?_
  refine J.iload_n (i := 3) dL_law_229 rfl rfl ?_
  refine J.iconst (v := 4) dL_law_230 (by decide) ?_
  refine J.iadd dL_law_231 ?_
  refine J.iald (hsc hx' hm m1 4 (by decide)) dL_law_232 ?_
  refine J.callV (As := [.int (g 1), .int (g 2), .int (g 3), .int (g 4)]) (k2 := k + 100) (n2 := n + 5000) 9 hDl hRm (bigM (as := [g 1, g 2, g 3, g 4]) (Rst_d2 hR) (w_X5_profile f2) rfl) (lw_V q1026 q1027 q1028 q44 q1029) hd_X5_profile rfl (is27 (Rst_8m hR).choose_spec) rfl (Nat.le_of_ble_eq_true rfl) (Nat.le_of_ble_eq_true rfl) (Nat.add_le_add_left (m := 50) (Nat.le_of_ble_eq_true rfl) _) (Nat.add_le_add_left (m := 2500) (Nat.le_of_ble_eq_true rfl) _) (by omega) (by omega) (Nat.le_of_ble_eq_true rfl) rfl dL_law_233 ?_
  exact J.icmp_eq (tgt := 1266) dL_law_236 (by decide) (fun _ => next hx' hm' hy hs hR') (fun z => absurd rfl z)
set_option maxHeartbeats 4000000 in
theorem lc_die {X : jX} {D : va_G} {l : Launch} {c k n sn : Nat} {i : Int32} {sc : Option jO} {hx hm : jH} {g : Nat → Int32} (hDl : jDl X D l) (hRm : jRoom X 2048 94400 603072 7262314) (hl : jNT l) (hc : c < 64) (hR : Rst c hx hm) (hsc : ∀ h1 h2 : jH, h1 1 = some cMost → ∀ q, q < 6 → jaI (mg sc h1 h2) sn .int (i + Int32.ofNat q) = some (g q)) (hk : k ≤ 500000) (hn : n ≤ 7000000) (next : ∀ h1 h2 hy : jH, jsub hy h1 → Rst (c + 1) hy h2 → J X cL_law 4 yL (k + 100) (n + 5000) 1266 [some (.ref sn), some (.ref 26), some (.ref 27), some (.int i)] [] (mg sc h1 h2)) : J X cL_law 4 yL k n 241 [some (.ref sn), some (.ref 26), some (.ref 27), some (.int i)] [] (mg sc hx hm) := by
  obtain ⟨r, hx', hm', hy, f1, f2, hs, hR'⟩ := (law_die (g 1) (g 2)).S c hx hm hc hR
  have m1 : hx' 1 = some cMost := (hs 1 _ (Rst_1 hR')).1
  refine J.aload_n (i := 1) dL_law_241 rfl rfl ?_
  refine J.aload_n (i := 0) dL_law_242 rfl rfl ?_
  refine J.iload_n (i := 3) dL_law_243 rfl rfl ?_
  refine J.iconst (v := 1) dL_law_244 (by decide) ?_
  refine J.iadd dL_law_245 ?_
  refine J.iald (hsc hx hm (Rst_1 hR) 1 (by decide)) dL_law_246 ?_
  refine J.aload_n (i := 0) dL_law_247 rfl rfl ?_
  refine J.iload_n (i := 3) dL_law_248 rfl rfl ?_
  refine J.iconst (v := 2) dL_law_249 (by decide) ?_
  refine J.iadd dL_law_250 ?_
  refine J.iald (hsc hx hm (Rst_1 hR) 2 (by decide)) dL_law_251 ?_
  refine J.callV (As := [.int (g 1), .int (g 2)]) (k2 := k + 50) (n2 := n + 2500) 0 hDl hRm (bigX (as := [g 1, g 2]) (Rst_d1 hR) (w_X0_die f1) rfl) (lw_V q289 q290 q291 q39 q292) hd_X0_die rfl (is26 (Rst_8 hR).choose_spec) rfl (Nat.le_of_ble_eq_true rfl) (Nat.le_of_ble_eq_true rfl) (Nat.add_le_add_left (Nat.le_of_ble_eq_true rfl) _) (Nat.add_le_add_left (Nat.le_of_ble_eq_true rfl) _) (by omega) (by omega) (Nat.le_of_ble_eq_true rfl) rfl dL_law_252 ?_
  refine J.aload_n (i := 2) dL_law_255 rfl rfl ?_
  refine J.aload_n (i := 0) dL_law_256 rfl rfl ?_
  refine J.iload_n (i := 3) dL_law_257 rfl rfl ?_
  refine J.iconst (v := 1) dL_law_258 (by decide) ?_
  refine J.iadd dL_law_259 ?_
  refine J.iald (hsc hx' hm m1 1 (by decide)) dL_law_260 ?_
  refine J.aload_n (i := 0) dL_law_261 rfl rfl ?_
  refine J.iload_n (i := 3) dL_law_262 rfl rfl ?_
  refine J.iconst (v := 2) dL_law_263 (by decide) ?_
  refine J.iadd dL_law_264 ?_
  refine J.iald (hsc hx' hm m1 2 (by decide)) dL_law_265 ?_
  refine J.callV (As := [.int (g 1), .int (g 2)]) (k2 := k + 100) (n2 := n + 5000) 9 hDl hRm (bigM (as := [g 1, g 2]) (Rst_d2 hR) (w_X5_die f2) rfl) (lw_V q1039 q1040 q1041 q44 q1042) hd_X5_die rfl (is27 (Rst_8m hR).choose_spec) rfl (Nat.le_of_ble_eq_true rfl) (Nat.le_of_ble_eq_true rfl) (Nat.add_le_add_left (m := 50) (Nat.le_of_ble_eq_true rfl) _) (Nat.add_le_add_left (m := 2500) (Nat.le_of_ble_eq_true rfl) _) (by omega) (by omega) (Nat.le_of_ble_eq_true rfl) rfl dL_law_266 ?_
  exact J.icmp_eq (tgt := 1266) dL_law_269 (by decide) (fun _ => next hx' hm' hy hs hR') (fun z => absurd rfl z)
set_option maxHeartbeats 4000000 in
theorem lc_warm {X : jX} {D : va_G} {l : Launch} {c k n sn : Nat} {i : Int32} {sc : Option jO} {hx hm : jH} {g : Nat → Int32} (hDl : jDl X D l) (hRm : jRoom X 2048 94400 603072 7262314) (hl : jNT l) (hc : c < 64) (hR : Rst c hx hm) (hsc : ∀ h1 h2 : jH, h1 1 = some cMost → ∀ q, q < 6 → jaI (mg sc h1 h2) sn .int (i + Int32.ofNat q) = some (g q)) (hk : k ≤ 500000) (hn : n ≤ 7000000) (next : ∀ h1 h2 hy : jH, jsub hy h1 → Rst (c + 1) hy h2 → J X cL_law 4 yL (k + 100) (n + 5000) 1266 [some (.ref sn), some (.ref 26), some (.ref 27), some (.int i)] [] (mg sc h1 h2)) : J X cL_law 4 yL k n 274 [some (.ref sn), some (.ref 26), some (.ref 27), some (.int i)] [] (mg sc hx hm) := by
  obtain ⟨r, hx', hm', hy, f1, f2, hs, hR'⟩ := (law_warm (g 1)).S c hx hm hc hR
  have m1 : hx' 1 = some cMost := (hs 1 _ (Rst_1 hR')).1
  refine J.aload_n (i := 1) dL_law_274 rfl rfl ?_
  refine J.aload_n (i := 0) dL_law_275 rfl rfl ?_
  refine J.iload_n (i := 3) dL_law_276 rfl rfl ?_
  refine J.iconst (v := 1) dL_law_277 (by decide) ?_
  refine J.iadd dL_law_278 ?_
  refine J.iald (hsc hx hm (Rst_1 hR) 1 (by decide)) dL_law_279 ?_
  refine J.callV (As := [.int (g 1)]) (k2 := k + 50) (n2 := n + 2500) 0 hDl hRm (bigX (as := [g 1]) (Rst_d1 hR) (w_X0_warm f1) rfl) (lw_V q330 q331 q332 q39 q333) hd_X0_warm rfl (is26 (Rst_8 hR).choose_spec) rfl (Nat.le_of_ble_eq_true rfl) (Nat.le_of_ble_eq_true rfl) (Nat.add_le_add_left (Nat.le_of_ble_eq_true rfl) _) (Nat.add_le_add_left (Nat.le_of_ble_eq_true rfl) _) (by omega) (by omega) (Nat.le_of_ble_eq_true rfl) rfl dL_law_280 ?_
  refine J.aload_n (i := 2) dL_law_283 rfl rfl ?_
  refine J.aload_n (i := 0) dL_law_284 rfl rfl ?_
  refine J.iload_n (i := 3) dL_law_285 rfl rfl ?_
  refine J.iconst (v := 1) dL_law_286 (by decide) ?_
  refine J.iadd dL_law_287 ?_
  refine J.iald (hsc hx' hm m1 1 (by decide)) dL_law_288 ?_
  refine J.callV (As := [.int (g 1)]) (k2 := k + 100) (n2 := n + 5000) 9 hDl hRm (bigM (as := [g 1]) (Rst_d2 hR) (w_X5_warm f2) rfl) (lw_V q1048 q1049 q1050 q44 q1051) hd_X5_warm rfl (is27 (Rst_8m hR).choose_spec) rfl (Nat.le_of_ble_eq_true rfl) (Nat.le_of_ble_eq_true rfl) (Nat.add_le_add_left (m := 50) (Nat.le_of_ble_eq_true rfl) _) (Nat.add_le_add_left (m := 2500) (Nat.le_of_ble_eq_true rfl) _) (by omega) (by omega) (Nat.le_of_ble_eq_true rfl) rfl dL_law_289 ?_
  exact J.icmp_eq (tgt := 1266) dL_law_292 (by decide) (fun _ => next hx' hm' hy hs hR') (fun z => absurd rfl z)
set_option maxHeartbeats 4000000 in
theorem lc_cool {X : jX} {D : va_G} {l : Launch} {c k n sn : Nat} {i : Int32} {sc : Option jO} {hx hm : jH} {g : Nat → Int32} (hDl : jDl X D l) (hRm : jRoom X 2048 94400 603072 7262314) (hl : jNT l) (hc : c < 64) (hR : Rst c hx hm) (hsc : ∀ h1 h2 : jH, h1 1 = some cMost → ∀ q, q < 6 → jaI (mg sc h1 h2) sn .int (i + Int32.ofNat q) = some (g q)) (hk : k ≤ 500000) (hn : n ≤ 7000000) (next : ∀ h1 h2 hy : jH, jsub hy h1 → Rst (c + 1) hy h2 → J X cL_law 4 yL (k + 100) (n + 5000) 1266 [some (.ref sn), some (.ref 26), some (.ref 27), some (.int i)] [] (mg sc h1 h2)) : J X cL_law 4 yL k n 297 [some (.ref sn), some (.ref 26), some (.ref 27), some (.int i)] [] (mg sc hx hm) := by
  obtain ⟨r, hx', hm', hy, f1, f2, hs, hR'⟩ := (law_cool (g 1)).S c hx hm hc hR
  have m1 : hx' 1 = some cMost := (hs 1 _ (Rst_1 hR')).1
  refine J.aload_n (i := 1) dL_law_297 rfl rfl ?_
  refine J.aload_n (i := 0) dL_law_298 rfl rfl ?_
  refine J.iload_n (i := 3) dL_law_299 rfl rfl ?_
  refine J.iconst (v := 1) dL_law_300 (by decide) ?_
  refine J.iadd dL_law_301 ?_
  refine J.iald (hsc hx hm (Rst_1 hR) 1 (by decide)) dL_law_302 ?_
  refine J.callV (As := [.int (g 1)]) (k2 := k + 50) (n2 := n + 2500) 0 hDl hRm (bigX (as := [g 1]) (Rst_d1 hR) (w_X0_cool f1) rfl) (lw_V q338 q339 q340 q39 q341) hd_X0_cool rfl (is26 (Rst_8 hR).choose_spec) rfl (Nat.le_of_ble_eq_true rfl) (Nat.le_of_ble_eq_true rfl) (Nat.add_le_add_left (Nat.le_of_ble_eq_true rfl) _) (Nat.add_le_add_left (Nat.le_of_ble_eq_true rfl) _) (by omega) (by omega) (Nat.le_of_ble_eq_true rfl) rfl dL_law_303 ?_
  refine J.aload_n (i := 2) dL_law_306 rfl rfl ?_
  refine J.aload_n (i := 0) dL_law_307 rfl rfl ?_
  refine J.iload_n (i := 3) dL_law_308 rfl rfl ?_
  refine J.iconst (v := 1) dL_law_309 (by decide) ?_
  refine J.iadd dL_law_310 ?_
  refine J.iald (hsc hx' hm m1 1 (by decide)) dL_law_311 ?_
  refine J.callV (As := [.int (g 1)]) (k2 := k + 100) (n2 := n + 5000) 9 hDl hRm (bigM (as := [g 1]) (Rst_d2 hR) (w_X5_cool f2) rfl) (lw_V q1056 q1057 q1058 q44 q1059) hd_X5_cool rfl (is27 (Rst_8m hR).choose_spec) rfl (Nat.le_of_ble_eq_true rfl) (Nat.le_of_ble_eq_true rfl) (Nat.add_le_add_left (m := 50) (Nat.le_of_ble_eq_true rfl) _) (Nat.add_le_add_left (m := 2500) (Nat.le_of_ble_eq_true rfl) _) (by omega) (by omega) (Nat.le_of_ble_eq_true rfl) rfl dL_law_312 ?_
  exact J.icmp_eq (tgt := 1266) dL_law_315 (by decide) (fun _ => next hx' hm' hy hs hR') (fun z => absurd rfl z)
set_option maxHeartbeats 4000000 in
theorem lc_nitride {X : jX} {D : va_G} {l : Launch} {c k n sn : Nat} {i : Int32} {sc : Option jO} {hx hm : jH} {g : Nat → Int32} (hDl : jDl X D l) (hRm : jRoom X 2048 94400 603072 7262314) (hl : jNT l) (hc : c < 64) (hR : Rst c hx hm) (hsc : ∀ h1 h2 : jH, h1 1 = some cMost → ∀ q, q < 6 → jaI (mg sc h1 h2) sn .int (i + Int32.ofNat q) = some (g q)) (hk : k ≤ 500000) (hn : n ≤ 7000000) (next : ∀ h1 h2 hy : jH, jsub hy h1 → Rst (c + 1) hy h2 → J X cL_law 4 yL (k + 100) (n + 5000) 1266 [some (.ref sn), some (.ref 26), some (.ref 27), some (.int i)] [] (mg sc h1 h2)) : J X cL_law 4 yL k n 320 [some (.ref sn), some (.ref 26), some (.ref 27), some (.int i)] [] (mg sc hx hm) := by
  obtain ⟨r, hx', hm', hy, f1, f2, hs, hR'⟩ := (law_nitride (g 1)).S c hx hm hc hR
  have m1 : hx' 1 = some cMost := (hs 1 _ (Rst_1 hR')).1
  refine J.aload_n (i := 1) dL_law_320 rfl rfl ?_
  refine J.aload_n (i := 0) dL_law_321 rfl rfl ?_
  refine J.iload_n (i := 3) dL_law_322 rfl rfl ?_
  refine J.iconst (v := 1) dL_law_323 (by decide) ?_
  refine J.iadd dL_law_324 ?_
  refine J.iald (hsc hx hm (Rst_1 hR) 1 (by decide)) dL_law_325 ?_
  refine J.callV (As := [.int (g 1)]) (k2 := k + 50) (n2 := n + 2500) 0 hDl hRm (bigX (as := [g 1]) (Rst_d1 hR) (w_X0_nitride f1) rfl) (lw_V q342 q343 q344 q39 q345) hd_X0_nitride rfl (is26 (Rst_8 hR).choose_spec) rfl (Nat.le_of_ble_eq_true rfl) (Nat.le_of_ble_eq_true rfl) (Nat.add_le_add_left (Nat.le_of_ble_eq_true rfl) _) (Nat.add_le_add_left (Nat.le_of_ble_eq_true rfl) _) (by omega) (by omega) (Nat.le_of_ble_eq_true rfl) rfl dL_law_326 ?_
  refine J.aload_n (i := 2) dL_law_329 rfl rfl ?_
  refine J.aload_n (i := 0) dL_law_330 rfl rfl ?_
  refine J.iload_n (i := 3) dL_law_331 rfl rfl ?_
  refine J.iconst (v := 1) dL_law_332 (by decide) ?_
  refine J.iadd dL_law_333 ?_
  refine J.iald (hsc hx' hm m1 1 (by decide)) dL_law_334 ?_
  refine J.callV (As := [.int (g 1)]) (k2 := k + 100) (n2 := n + 5000) 9 hDl hRm (bigM (as := [g 1]) (Rst_d2 hR) (w_X5_nitride f2) rfl) (lw_V q1060 q1061 q1062 q44 q1063) hd_X5_nitride rfl (is27 (Rst_8m hR).choose_spec) rfl (Nat.le_of_ble_eq_true rfl) (Nat.le_of_ble_eq_true rfl) (Nat.add_le_add_left (m := 50) (Nat.le_of_ble_eq_true rfl) _) (Nat.add_le_add_left (m := 2500) (Nat.le_of_ble_eq_true rfl) _) (by omega) (by omega) (Nat.le_of_ble_eq_true rfl) rfl dL_law_335 ?_
  exact J.icmp_eq (tgt := 1266) dL_law_338 (by decide) (fun _ => next hx' hm' hy hs hR') (fun z => absurd rfl z)
set_option maxHeartbeats 4000000 in
theorem lc_about {X : jX} {D : va_G} {l : Launch} {c k n sn : Nat} {i : Int32} {sc : Option jO} {hx hm : jH} {g : Nat → Int32} (hDl : jDl X D l) (hRm : jRoom X 2048 94400 603072 7262314) (hl : jNT l) (hc : c < 64) (hR : Rst c hx hm) (hsc : ∀ h1 h2 : jH, h1 1 = some cMost → ∀ q, q < 6 → jaI (mg sc h1 h2) sn .int (i + Int32.ofNat q) = some (g q)) (hk : k ≤ 500000) (hn : n ≤ 7000000) (next : ∀ h1 h2 hy : jH, jsub hy h1 → Rst (c + 1) hy h2 → J X cL_law 4 yL (k + 100) (n + 5000) 1266 [some (.ref sn), some (.ref 26), some (.ref 27), some (.int i)] [] (mg sc h1 h2)) : J X cL_law 4 yL k n 343 [some (.ref sn), some (.ref 26), some (.ref 27), some (.int i)] [] (mg sc hx hm) := by
  obtain ⟨r, hx', hm', hy, f1, f2, hs, hR'⟩ := (law_about (g 1) (g 2)).S c hx hm hc hR
  have m1 : hx' 1 = some cMost := (hs 1 _ (Rst_1 hR')).1
  refine J.aload_n (i := 1) dL_law_343 rfl rfl ?_
  refine J.aload_n (i := 0) dL_law_344 rfl rfl ?_
  refine J.iload_n (i := 3) dL_law_345 rfl rfl ?_
  refine J.iconst (v := 1) dL_law_346 (by decide) ?_
  refine J.iadd dL_law_347 ?_
  refine J.iald (hsc hx hm (Rst_1 hR) 1 (by decide)) dL_law_348 ?_
  refine J.aload_n (i := 0) dL_law_349 rfl rfl ?_
  refine J.iload_n (i := 3) dL_law_350 rfl rfl ?_
  refine J.iconst (v := 2) dL_law_351 (by decide) ?_
  refine J.iadd dL_law_352 ?_
  refine J.iald (hsc hx hm (Rst_1 hR) 2 (by decide)) dL_law_353 ?_
  refine J.callV (As := [.int (g 1), .int (g 2)]) (k2 := k + 50) (n2 := n + 2500) 0 hDl hRm (bigX (as := [g 1, g 2]) (Rst_d1 hR) (w_X0_about f1) rfl) (lw_V q346 q347 q348 q39 q349) hd_X0_about rfl (is26 (Rst_8 hR).choose_spec) rfl (Nat.le_of_ble_eq_true rfl) (Nat.le_of_ble_eq_true rfl) (Nat.add_le_add_left (Nat.le_of_ble_eq_true rfl) _) (Nat.add_le_add_left (Nat.le_of_ble_eq_true rfl) _) (by omega) (by omega) (Nat.le_of_ble_eq_true rfl) rfl dL_law_354 ?_
  refine J.aload_n (i := 2) dL_law_357 rfl rfl ?_
  refine J.aload_n (i := 0) dL_law_358 rfl rfl ?_
  refine J.iload_n (i := 3) dL_law_359 rfl rfl ?_
  refine J.iconst (v := 1) dL_law_360 (by decide) ?_
  refine J.iadd dL_law_361 ?_
  refine J.iald (hsc hx' hm m1 1 (by decide)) dL_law_362 ?_
  refine J.aload_n (i := 0) dL_law_363 rfl rfl ?_
  refine J.iload_n (i := 3) dL_law_364 rfl rfl ?_
  refine J.iconst (v := 2) dL_law_365 (by decide) ?_
  refine J.iadd dL_law_366 ?_
  refine J.iald (hsc hx' hm m1 2 (by decide)) dL_law_367 ?_
  refine J.callV (As := [.int (g 1), .int (g 2)]) (k2 := k + 100) (n2 := n + 5000) 9 hDl hRm (bigM (as := [g 1, g 2]) (Rst_d2 hR) (w_X5_about f2) rfl) (lw_V q1064 q1065 q1066 q44 q1067) hd_X5_about rfl (is27 (Rst_8m hR).choose_spec) rfl (Nat.le_of_ble_eq_true rfl) (Nat.le_of_ble_eq_true rfl) (Nat.add_le_add_left (m := 50) (Nat.le_of_ble_eq_true rfl) _) (Nat.add_le_add_left (m := 2500) (Nat.le_of_ble_eq_true rfl) _) (by omega) (by omega) (Nat.le_of_ble_eq_true rfl) rfl dL_law_368 ?_
  exact J.icmp_eq (tgt := 1266) dL_law_371 (by decide) (fun _ => next hx' hm' hy hs hR') (fun z => absurd rfl z)
set_option maxHeartbeats 4000000 in
theorem lc_ready {X : jX} {D : va_G} {l : Launch} {c k n sn : Nat} {i : Int32} {sc : Option jO} {hx hm : jH} {g : Nat → Int32} (hDl : jDl X D l) (hRm : jRoom X 2048 94400 603072 7262314) (hl : jNT l) (hc : c < 64) (hR : Rst c hx hm) (hsc : ∀ h1 h2 : jH, h1 1 = some cMost → ∀ q, q < 6 → jaI (mg sc h1 h2) sn .int (i + Int32.ofNat q) = some (g q)) (hk : k ≤ 500000) (hn : n ≤ 7000000) (next : ∀ h1 h2 hy : jH, jsub hy h1 → Rst (c + 1) hy h2 → J X cL_law 4 yL (k + 100) (n + 5000) 1266 [some (.ref sn), some (.ref 26), some (.ref 27), some (.int i)] [] (mg sc h1 h2)) : J X cL_law 4 yL k n 376 [some (.ref sn), some (.ref 26), some (.ref 27), some (.int i)] [] (mg sc hx hm) := by
  obtain ⟨r, hx', hm', hy, f1, f2, hs, hR'⟩ := (law_ready (g 1)).S c hx hm hc hR
  have m1 : hx' 1 = some cMost := (hs 1 _ (Rst_1 hR')).1
  refine J.aload_n (i := 1) dL_law_376 rfl rfl ?_
  refine J.aload_n (i := 0) dL_law_377 rfl rfl ?_
  refine J.iload_n (i := 3) dL_law_378 rfl rfl ?_
  refine J.iconst (v := 1) dL_law_379 (by decide) ?_
  refine J.iadd dL_law_380 ?_
  refine J.iald (hsc hx hm (Rst_1 hR) 1 (by decide)) dL_law_381 ?_
  refine J.callV (As := [.int (g 1)]) (k2 := k + 50) (n2 := n + 2500) 0 hDl hRm (bigX (as := [g 1]) (Rst_d1 hR) (w_X0_ready f1) rfl) (lw_V q359 q360 q361 q39 q362) hd_X0_ready rfl (is26 (Rst_8 hR).choose_spec) rfl (Nat.le_of_ble_eq_true rfl) (Nat.le_of_ble_eq_true rfl) (Nat.add_le_add_left (Nat.le_of_ble_eq_true rfl) _) (Nat.add_le_add_left (Nat.le_of_ble_eq_true rfl) _) (by omega) (by omega) (Nat.le_of_ble_eq_true rfl) rfl dL_law_382 ?_
  refine J.aload_n (i := 2) dL_law_385 rfl rfl ?_
  refine J.aload_n (i := 0) dL_law_386 rfl rfl ?_
  refine J.iload_n (i := 3) dL_law_387 rfl rfl ?_
  refine J.iconst (v := 1) dL_law_388 (by decide) ?_
  refine J.iadd dL_law_389 ?_
  refine J.iald (hsc hx' hm m1 1 (by decide)) dL_law_390 ?_
  refine J.callV (As := [.int (g 1)]) (k2 := k + 100) (n2 := n + 5000) 9 hDl hRm (bigM (as := [g 1]) (Rst_d2 hR) (w_X5_ready f2) rfl) (lw_V q1073 q1074 q1075 q44 q1076) hd_X5_ready rfl (is27 (Rst_8m hR).choose_spec) rfl (Nat.le_of_ble_eq_true rfl) (Nat.le_of_ble_eq_true rfl) (Nat.add_le_add_left (m := 50) (Nat.le_of_ble_eq_true rfl) _) (Nat.add_le_add_left (m := 2500) (Nat.le_of_ble_eq_true rfl) _) (by omega) (by omega) (Nat.le_of_ble_eq_true rfl) rfl dL_law_391 ?_
  exact J.icmp_eq (tgt := 1266) dL_law_394 (by decide) (fun _ => next hx' hm' hy hs hR') (fun z => absurd rfl z)
set_option maxHeartbeats 4000000 in
theorem lc_pass {X : jX} {D : va_G} {l : Launch} {c k n sn : Nat} {i : Int32} {sc : Option jO} {hx hm : jH} {g : Nat → Int32} (hDl : jDl X D l) (hRm : jRoom X 2048 94400 603072 7262314) (hl : jNT l) (hc : c < 64) (hR : Rst c hx hm) (hsc : ∀ h1 h2 : jH, h1 1 = some cMost → ∀ q, q < 6 → jaI (mg sc h1 h2) sn .int (i + Int32.ofNat q) = some (g q)) (hk : k ≤ 500000) (hn : n ≤ 7000000) (next : ∀ h1 h2 hy : jH, jsub hy h1 → Rst (c + 1) hy h2 → J X cL_law 4 yL (k + 100) (n + 5000) 1266 [some (.ref sn), some (.ref 26), some (.ref 27), some (.int i)] [] (mg sc h1 h2)) : J X cL_law 4 yL k n 399 [some (.ref sn), some (.ref 26), some (.ref 27), some (.int i)] [] (mg sc hx hm) := by
  obtain ⟨r, hx', hm', hy, f1, f2, hs, hR'⟩ := (law_pass (g 1)).S c hx hm hc hR
  have m1 : hx' 1 = some cMost := (hs 1 _ (Rst_1 hR')).1
  refine J.aload_n (i := 1) dL_law_399 rfl rfl ?_
  refine J.aload_n (i := 0) dL_law_400 rfl rfl ?_
  refine J.iload_n (i := 3) dL_law_401 rfl rfl ?_
  refine J.iconst (v := 1) dL_law_402 (by decide) ?_
  refine J.iadd dL_law_403 ?_
  refine J.iald (hsc hx hm (Rst_1 hR) 1 (by decide)) dL_law_404 ?_
  refine J.callV (As := [.int (g 1)]) (k2 := k + 50) (n2 := n + 2500) 0 hDl hRm (bigX (as := [g 1]) (Rst_d1 hR) (w_X0_pass f1) rfl) (lw_V q363 q364 q365 q39 q366) hd_X0_pass rfl (is26 (Rst_8 hR).choose_spec) rfl (Nat.le_of_ble_eq_true rfl) (Nat.le_of_ble_eq_true rfl) (Nat.add_le_add_left (Nat.le_of_ble_eq_true rfl) _) (Nat.add_le_add_left (Nat.le_of_ble_eq_true rfl) _) (by omega) (by omega) (Nat.le_of_ble_eq_true rfl) rfl dL_law_405 ?_
  refine J.aload_n (i := 2) dL_law_408 rfl rfl ?_
  refine J.aload_n (i := 0) dL_law_409 rfl rfl ?_
  refine J.iload_n (i := 3) dL_law_410 rfl rfl ?_
  refine J.iconst (v := 1) dL_law_411 (by decide) ?_
  refine J.iadd dL_law_412 ?_
  refine J.iald (hsc hx' hm m1 1 (by decide)) dL_law_413 ?_
  refine J.callV (As := [.int (g 1)]) (k2 := k + 100) (n2 := n + 5000) 9 hDl hRm (bigM (as := [g 1]) (Rst_d2 hR) (w_X5_pass f2) rfl) (lw_V q1077 q1078 q1079 q44 q1080) hd_X5_pass rfl (is27 (Rst_8m hR).choose_spec) rfl (Nat.le_of_ble_eq_true rfl) (Nat.le_of_ble_eq_true rfl) (Nat.add_le_add_left (m := 50) (Nat.le_of_ble_eq_true rfl) _) (Nat.add_le_add_left (m := 2500) (Nat.le_of_ble_eq_true rfl) _) (by omega) (by omega) (Nat.le_of_ble_eq_true rfl) rfl dL_law_414 ?_
  exact J.icmp_eq (tgt := 1266) dL_law_417 (by decide) (fun _ => next hx' hm' hy hs hR') (fun z => absurd rfl z)
set_option maxHeartbeats 4000000 in
theorem lc_law {X : jX} {D : va_G} {l : Launch} {c k n sn : Nat} {i : Int32} {sc : Option jO} {hx hm : jH} {g : Nat → Int32} (hDl : jDl X D l) (hRm : jRoom X 2048 94400 603072 7262314) (hl : jNT l) (hc : c < 64) (hR : Rst c hx hm) (hsc : ∀ h1 h2 : jH, h1 1 = some cMost → ∀ q, q < 6 → jaI (mg sc h1 h2) sn .int (i + Int32.ofNat q) = some (g q)) (hk : k ≤ 500000) (hn : n ≤ 7000000) (next : ∀ h1 h2 hy : jH, jsub hy h1 → Rst (c + 1) hy h2 → J X cL_law 4 yL (k + 100) (n + 5000) 1266 [some (.ref sn), some (.ref 26), some (.ref 27), some (.int i)] [] (mg sc h1 h2)) : J X cL_law 4 yL k n 422 [some (.ref sn), some (.ref 26), some (.ref 27), some (.int i)] [] (mg sc hx hm) := by
  obtain ⟨r, hx', hm', hy, f1, f2, hs, hR'⟩ := (law_law (g 1) (g 2)).S c hx hm hc hR
  have m1 : hx' 1 = some cMost := (hs 1 _ (Rst_1 hR')).1
  refine J.aload_n (i := 1) dL_law_422 rfl rfl ?_
  refine J.aload_n (i := 0) dL_law_423 rfl rfl ?_
  refine J.iload_n (i := 3) dL_law_424 rfl rfl ?_
  refine J.iconst (v := 1) dL_law_425 (by decide) ?_
  refine J.iadd dL_law_426 ?_
  refine J.iald (hsc hx hm (Rst_1 hR) 1 (by decide)) dL_law_427 ?_
  refine J.aload_n (i := 0) dL_law_428 rfl rfl ?_
  refine J.iload_n (i := 3) dL_law_429 rfl rfl ?_
  refine J.iconst (v := 2) dL_law_430 (by decide) ?_
  refine J.iadd dL_law_431 ?_
  refine J.iald (hsc hx hm (Rst_1 hR) 2 (by decide)) dL_law_432 ?_
  refine J.callV (As := [.int (g 1), .int (g 2)]) (k2 := k + 50) (n2 := n + 2500) 0 hDl hRm (bigX (as := [g 1, g 2]) (Rst_d1 hR) (w_X0_law f1) rfl) (lw_V q367 q368 q369 q39 q370) hd_X0_law rfl (is26 (Rst_8 hR).choose_spec) rfl (Nat.le_of_ble_eq_true rfl) (Nat.le_of_ble_eq_true rfl) (Nat.add_le_add_left (Nat.le_of_ble_eq_true rfl) _) (Nat.add_le_add_left (Nat.le_of_ble_eq_true rfl) _) (by omega) (by omega) (Nat.le_of_ble_eq_true rfl) rfl dL_law_433 ?_
  refine J.aload_n (i := 2) dL_law_436 rfl rfl ?_
  refine J.aload_n (i := 0) dL_law_437 rfl rfl ?_
  refine J.iload_n (i := 3) dL_law_438 rfl rfl ?_
  refine J.iconst (v := 1) dL_law_439 (by decide) ?_
  refine J.iadd dL_law_440 ?_
  refine J.iald (hsc hx' hm m1 1 (by decide)) dL_law_441 ?_
  refine J.aload_n (i := 0) dL_law_442 rfl rfl ?_
  refine J.iload_n (i := 3) dL_law_443 rfl rfl ?_
  refine J.iconst (v := 2) dL_law_444 (by decide) ?_
  refine J.iadd dL_law_445 ?_
  refine J.iald (hsc hx' hm m1 2 (by decide)) dL_law_446 ?_
  refine J.callV (As := [.int (g 1), .int (g 2)]) (k2 := k + 100) (n2 := n + 5000) 9 hDl hRm (bigM (as := [g 1, g 2]) (Rst_d2 hR) (w_X5_law f2) rfl) (lw_V q1081 q1082 q1083 q44 q1084) hd_X5_law rfl (is27 (Rst_8m hR).choose_spec) rfl (Nat.le_of_ble_eq_true rfl) (Nat.le_of_ble_eq_true rfl) (Nat.add_le_add_left (m := 50) (Nat.le_of_ble_eq_true rfl) _) (Nat.add_le_add_left (m := 2500) (Nat.le_of_ble_eq_true rfl) _) (by omega) (by omega) (Nat.le_of_ble_eq_true rfl) rfl dL_law_447 ?_
  exact J.icmp_eq (tgt := 1266) dL_law_450 (by decide) (fun _ => next hx' hm' hy hs hR') (fun z => absurd rfl z)
set_option maxHeartbeats 4000000 in
theorem lc_press {X : jX} {D : va_G} {l : Launch} {c k n sn : Nat} {i : Int32} {sc : Option jO} {hx hm : jH} {g : Nat → Int32} (hDl : jDl X D l) (hRm : jRoom X 2048 94400 603072 7262314) (hl : jNT l) (hc : c < 64) (hR : Rst c hx hm) (hsc : ∀ h1 h2 : jH, h1 1 = some cMost → ∀ q, q < 6 → jaI (mg sc h1 h2) sn .int (i + Int32.ofNat q) = some (g q)) (hk : k ≤ 500000) (hn : n ≤ 7000000) (next : ∀ h1 h2 hy : jH, jsub hy h1 → Rst (c + 1) hy h2 → J X cL_law 4 yL (k + 100) (n + 5000) 1266 [some (.ref sn), some (.ref 26), some (.ref 27), some (.int i)] [] (mg sc h1 h2)) : J X cL_law 4 yL k n 455 [some (.ref sn), some (.ref 26), some (.ref 27), some (.int i)] [] (mg sc hx hm) := by
  obtain ⟨r, hx', hm', hy, f1, f2, hs, hR'⟩ := (law_press (g 1) (g 2)).S c hx hm hc hR
  have m1 : hx' 1 = some cMost := (hs 1 _ (Rst_1 hR')).1
  refine J.aload_n (i := 1) dL_law_455 rfl rfl ?_
  refine J.aload_n (i := 0) dL_law_456 rfl rfl ?_
  refine J.iload_n (i := 3) dL_law_457 rfl rfl ?_
  refine J.iconst (v := 1) dL_law_458 (by decide) ?_
  refine J.iadd dL_law_459 ?_
  refine J.iald (hsc hx hm (Rst_1 hR) 1 (by decide)) dL_law_460 ?_
  refine J.aload_n (i := 0) dL_law_461 rfl rfl ?_
  refine J.iload_n (i := 3) dL_law_462 rfl rfl ?_
  refine J.iconst (v := 2) dL_law_463 (by decide) ?_
  refine J.iadd dL_law_464 ?_
  refine J.iald (hsc hx hm (Rst_1 hR) 2 (by decide)) dL_law_465 ?_
  refine J.callV (As := [.int (g 1), .int (g 2)]) (k2 := k + 50) (n2 := n + 2500) 0 hDl hRm (bigX (as := [g 1, g 2]) (Rst_d1 hR) (w_X0_press f1) rfl) (lw_V q373 q374 q375 q39 q376) hd_X0_press rfl (is26 (Rst_8 hR).choose_spec) rfl (Nat.le_of_ble_eq_true rfl) (Nat.le_of_ble_eq_true rfl) (Nat.add_le_add_left (Nat.le_of_ble_eq_true rfl) _) (Nat.add_le_add_left (Nat.le_of_ble_eq_true rfl) _) (by omega) (by omega) (Nat.le_of_ble_eq_true rfl) rfl dL_law_466 ?_
  refine J.aload_n (i := 2) dL_law_469 rfl rfl ?_
  refine J.aload_n (i := 0) dL_law_470 rfl rfl ?_
  refine J.iload_n (i := 3) dL_law_471 rfl rfl ?_
  refine J.iconst (v := 1) dL_law_472 (by decide) ?_
  refine J.iadd dL_law_473 ?_
  refine J.iald (hsc hx' hm m1 1 (by decide)) dL_law_474 ?_
  refine J.aload_n (i := 0) dL_law_475 rfl rfl ?_
  refine J.iload_n (i := 3) dL_law_476 rfl rfl ?_
  refine J.iconst (v := 2) dL_law_477 (by decide) ?_
  refine J.iadd dL_law_478 ?_
  refine J.iald (hsc hx' hm m1 2 (by decide)) dL_law_479 ?_
  refine J.callV (As := [.int (g 1), .int (g 2)]) (k2 := k + 100) (n2 := n + 5000) 9 hDl hRm (bigM (as := [g 1, g 2]) (Rst_d2 hR) (w_X5_press f2) rfl) (lw_V q1087 q1088 q1089 q44 q1090) hd_X5_press rfl (is27 (Rst_8m hR).choose_spec) rfl (Nat.le_of_ble_eq_true rfl) (Nat.le_of_ble_eq_true rfl) (Nat.add_le_add_left (m := 50) (Nat.le_of_ble_eq_true rfl) _) (Nat.add_le_add_left (m := 2500) (Nat.le_of_ble_eq_true rfl) _) (by omega) (by omega) (Nat.le_of_ble_eq_true rfl) rfl dL_law_480 ?_
  exact J.icmp_eq (tgt := 1266) dL_law_483 (by decide) (fun _ => next hx' hm' hy hs hR') (fun z => absurd rfl z)
set_option maxHeartbeats 4000000 in
theorem lc_bar {X : jX} {D : va_G} {l : Launch} {c k n sn : Nat} {i : Int32} {sc : Option jO} {hx hm : jH} {g : Nat → Int32} (hDl : jDl X D l) (hRm : jRoom X 2048 94400 603072 7262314) (hl : jNT l) (hc : c < 64) (hR : Rst c hx hm) (hsc : ∀ h1 h2 : jH, h1 1 = some cMost → ∀ q, q < 6 → jaI (mg sc h1 h2) sn .int (i + Int32.ofNat q) = some (g q)) (hk : k ≤ 500000) (hn : n ≤ 7000000) (next : ∀ h1 h2 hy : jH, jsub hy h1 → Rst (c + 1) hy h2 → J X cL_law 4 yL (k + 100) (n + 5000) 1266 [some (.ref sn), some (.ref 26), some (.ref 27), some (.int i)] [] (mg sc h1 h2)) : J X cL_law 4 yL k n 488 [some (.ref sn), some (.ref 26), some (.ref 27), some (.int i)] [] (mg sc hx hm) := by
  obtain ⟨r, hx', hm', hy, f1, f2, hs, hR'⟩ := (law_bar (g 1) (g 2)).S c hx hm hc hR
  have m1 : hx' 1 = some cMost := (hs 1 _ (Rst_1 hR')).1
  refine J.aload_n (i := 1) dL_law_488 rfl rfl ?_
  refine J.aload_n (i := 0) dL_law_489 rfl rfl ?_
  refine J.iload_n (i := 3) dL_law_490 rfl rfl ?_
  refine J.iconst (v := 1) dL_law_491 (by decide) ?_
  refine J.iadd dL_law_492 ?_
  refine J.iald (hsc hx hm (Rst_1 hR) 1 (by decide)) dL_law_493 ?_
  refine J.aload_n (i := 0) dL_law_494 rfl rfl ?_
  refine J.iload_n (i := 3) dL_law_495 rfl rfl ?_
  refine J.iconst (v := 2) dL_law_496 (by decide) ?_
  refine J.iadd dL_law_497 ?_
  refine J.iald (hsc hx hm (Rst_1 hR) 2 (by decide)) dL_law_498 ?_
  refine J.callV (As := [.int (g 1), .int (g 2)]) (k2 := k + 50) (n2 := n + 2500) 0 hDl hRm (bigX (as := [g 1, g 2]) (Rst_d1 hR) (w_X0_bar f1) rfl) (lw_V q473 q474 q475 q39 q476) hd_X0_bar rfl (is26 (Rst_8 hR).choose_spec) rfl (Nat.le_of_ble_eq_true rfl) (Nat.le_of_ble_eq_true rfl) (Nat.add_le_add_left (Nat.le_of_ble_eq_true rfl) _) (Nat.add_le_add_left (Nat.le_of_ble_eq_true rfl) _) (by omega) (by omega) (Nat.le_of_ble_eq_true rfl) rfl dL_law_499 ?_
  refine J.aload_n (i := 2) dL_law_502 rfl rfl ?_
  refine J.aload_n (i := 0) dL_law_503 rfl rfl ?_
  refine J.iload_n (i := 3) dL_law_504 rfl rfl ?_
  refine J.iconst (v := 1) dL_law_505 (by decide) ?_
  refine J.iadd dL_law_506 ?_
  refine J.iald (hsc hx' hm m1 1 (by decide)) dL_law_507 ?_
  refine J.aload_n (i := 0) dL_law_508 rfl rfl ?_
  refine J.iload_n (i := 3) dL_law_509 rfl rfl ?_
  refine J.iconst (v := 2) dL_law_510 (by decide) ?_
  refine J.iadd dL_law_511 ?_
  refine J.iald (hsc hx' hm m1 2 (by decide)) dL_law_512 ?_
  refine J.callV (As := [.int (g 1), .int (g 2)]) (k2 := k + 100) (n2 := n + 5000) 9 hDl hRm (bigM (as := [g 1, g 2]) (Rst_d2 hR) (w_X5_bar f2) rfl) (lw_V q1110 q1111 q1112 q44 q1113) hd_X5_bar rfl (is27 (Rst_8m hR).choose_spec) rfl (Nat.le_of_ble_eq_true rfl) (Nat.le_of_ble_eq_true rfl) (Nat.add_le_add_left (m := 50) (Nat.le_of_ble_eq_true rfl) _) (Nat.add_le_add_left (m := 2500) (Nat.le_of_ble_eq_true rfl) _) (by omega) (by omega) (Nat.le_of_ble_eq_true rfl) rfl dL_law_513 ?_
  exact J.icmp_eq (tgt := 1266) dL_law_516 (by decide) (fun _ => next hx' hm' hy hs hR') (fun z => absurd rfl z)
set_option maxHeartbeats 4000000 in
theorem lc_order {X : jX} {D : va_G} {l : Launch} {c k n sn : Nat} {i : Int32} {sc : Option jO} {hx hm : jH} {g : Nat → Int32} (hDl : jDl X D l) (hRm : jRoom X 2048 94400 603072 7262314) (hl : jNT l) (hc : c < 64) (hR : Rst c hx hm) (hsc : ∀ h1 h2 : jH, h1 1 = some cMost → ∀ q, q < 6 → jaI (mg sc h1 h2) sn .int (i + Int32.ofNat q) = some (g q)) (hk : k ≤ 500000) (hn : n ≤ 7000000) (next : ∀ h1 h2 hy : jH, jsub hy h1 → Rst (c + 1) hy h2 → J X cL_law 4 yL (k + 100) (n + 5000) 1266 [some (.ref sn), some (.ref 26), some (.ref 27), some (.int i)] [] (mg sc h1 h2)) : J X cL_law 4 yL k n 521 [some (.ref sn), some (.ref 26), some (.ref 27), some (.int i)] [] (mg sc hx hm) := by
  obtain ⟨r, hx', hm', hy, f1, f2, hs, hR'⟩ := (law_order (g 1) (g 2) (g 3)).S c hx hm hc hR
  have m1 : hx' 1 = some cMost := (hs 1 _ (Rst_1 hR')).1
  refine J.aload_n (i := 1) dL_law_521 rfl rfl ?_
  refine J.aload_n (i := 0) dL_law_522 rfl rfl ?_
  refine J.iload_n (i := 3) dL_law_523 rfl rfl ?_
  refine J.iconst (v := 1) dL_law_524 (by decide) ?_
  refine J.iadd dL_law_525 ?_
  refine J.iald (hsc hx hm (Rst_1 hR) 1 (by decide)) dL_law_526 ?_
  refine J.aload_n (i := 0) dL_law_527 rfl rfl ?_
  refine J.iload_n (i := 3) dL_law_528 rfl rfl ?_
  refine J.iconst (v := 2) dL_law_529 (by decide) ?_
  refine J.iadd dL_law_530 ?_
  refine J.iald (hsc hx hm (Rst_1 hR) 2 (by decide)) dL_law_531 ?_
  refine J.aload_n (i := 0) dL_law_532 rfl rfl ?_
  refine J.iload_n (i := 3) dL_law_533 rfl rfl ?_
  refine J.iconst (v := 3) dL_law_534 (by decide) ?_
  refine J.iadd dL_law_535 ?_
  refine J.iald (hsc hx hm (Rst_1 hR) 3 (by decide)) dL_law_536 ?_
  refine J.callV (As := [.int (g 1), .int (g 2), .int (g 3)]) (k2 := k + 50) (n2 := n + 2500) 0 hDl hRm (bigX (as := [g 1, g 2, g 3]) (Rst_d1 hR) (w_X0_order f1) rfl) (lw_V q481 q482 q483 q39 q484) hd_X0_order rfl (is26 (Rst_8 hR).choose_spec) rfl (Nat.le_of_ble_eq_true rfl) (Nat.le_of_ble_eq_true rfl) (Nat.add_le_add_left (Nat.le_of_ble_eq_true rfl) _) (Nat.add_le_add_left (Nat.le_of_ble_eq_true rfl) _) (by omega) (by omega) (Nat.le_of_ble_eq_true rfl) rfl dL_law_537 ?_
  refine J.aload_n (i := 2) dL_law_540 rfl rfl ?_
  refine J.aload_n (i := 0) dL_law_541 rfl rfl ?_
  refine J.iload_n (i := 3) dL_law_542 rfl rfl ?_
  refine J.iconst (v := 1) dL_law_543 (by decide) ?_
  refine J.iadd dL_law_544 ?_
  refine J.iald (hsc hx' hm m1 1 (by decide)) dL_law_545 ?_
  refine J.aload_n (i := 0) dL_law_546 rfl rfl ?_
  refine J.iload_n (i := 3) dL_law_547 rfl rfl ?_
  refine J.iconst (v := 2) dL_law_548 (by decide) ?_
  refine J.iadd dL_law_549 ?_
  refine J.iald (hsc hx' hm m1 2 (by decide)) dL_law_550 ?_
  refine J.aload_n (i := 0) dL_law_551 rfl rfl ?_
  refine J.iload_n (i := 3) dL_law_552 rfl rfl ?_
  refine J.iconst (v := 3) dL_law_553 (by decide) ?_
  refine J.iadd dL_law_554 ?_
  refine J.iald (hsc hx' hm m1 3 (by decide)) dL_law_555 ?_
  refine J.callV (As := [.int (g 1), .int (g 2), .int (g 3)]) (k2 := k + 100) (n2 := n + 5000) 9 hDl hRm (bigM (as := [g 1, g 2, g 3]) (Rst_d2 hR) (w_X5_order f2) rfl) (lw_V q1118 q1119 q1120 q44 q1121) hd_X5_order rfl (is27 (Rst_8m hR).choose_spec) rfl (Nat.le_of_ble_eq_true rfl) (Nat.le_of_ble_eq_true rfl) (Nat.add_le_add_left (m := 50) (Nat.le_of_ble_eq_true rfl) _) (Nat.add_le_add_left (m := 2500) (Nat.le_of_ble_eq_true rfl) _) (by omega) (by omega) (Nat.le_of_ble_eq_true rfl) rfl dL_law_556 ?_
  exact J.icmp_eq (tgt := 1266) dL_law_559 (by decide) (fun _ => next hx' hm' hy hs hR') (fun z => absurd rfl z)
set_option maxHeartbeats 4000000 in
theorem lc_wanted {X : jX} {D : va_G} {l : Launch} {c k n sn : Nat} {i : Int32} {sc : Option jO} {hx hm : jH} {g : Nat → Int32} (hDl : jDl X D l) (hRm : jRoom X 2048 94400 603072 7262314) (hl : jNT l) (hc : c < 64) (hR : Rst c hx hm) (hsc : ∀ h1 h2 : jH, h1 1 = some cMost → ∀ q, q < 6 → jaI (mg sc h1 h2) sn .int (i + Int32.ofNat q) = some (g q)) (hk : k ≤ 500000) (hn : n ≤ 7000000) (next : ∀ h1 h2 hy : jH, jsub hy h1 → Rst (c + 1) hy h2 → J X cL_law 4 yL (k + 100) (n + 5000) 1266 [some (.ref sn), some (.ref 26), some (.ref 27), some (.int i)] [] (mg sc h1 h2)) : J X cL_law 4 yL k n 564 [some (.ref sn), some (.ref 26), some (.ref 27), some (.int i)] [] (mg sc hx hm) := by
  obtain ⟨r, hx', hm', hy, f1, f2, hs, hR'⟩ := (law_wanted (g 1) (g 2)).S c hx hm hc hR
  have m1 : hx' 1 = some cMost := (hs 1 _ (Rst_1 hR')).1
  refine J.aload_n (i := 1) dL_law_564 rfl rfl ?_
  refine J.aload_n (i := 0) dL_law_565 rfl rfl ?_
  refine J.iload_n (i := 3) dL_law_566 rfl rfl ?_
  refine J.iconst (v := 1) dL_law_567 (by decide) ?_
  refine J.iadd dL_law_568 ?_
  refine J.iald (hsc hx hm (Rst_1 hR) 1 (by decide)) dL_law_569 ?_
  refine J.aload_n (i := 0) dL_law_570 rfl rfl ?_
  refine J.iload_n (i := 3) dL_law_571 rfl rfl ?_
  refine J.iconst (v := 2) dL_law_572 (by decide) ?_
  refine J.iadd dL_law_573 ?_
  refine J.iald (hsc hx hm (Rst_1 hR) 2 (by decide)) dL_law_574 ?_
  refine J.callV (As := [.int (g 1), .int (g 2)]) (k2 := k + 50) (n2 := n + 2500) 0 hDl hRm (bigX (as := [g 1, g 2]) (Rst_d1 hR) (w_X0_wanted f1) rfl) (lw_V q556 q557 q558 q39 q559) hd_X0_wanted rfl (is26 (Rst_8 hR).choose_spec) rfl (Nat.le_of_ble_eq_true rfl) (Nat.le_of_ble_eq_true rfl) (Nat.add_le_add_left (Nat.le_of_ble_eq_true rfl) _) (Nat.add_le_add_left (Nat.le_of_ble_eq_true rfl) _) (by omega) (by omega) (Nat.le_of_ble_eq_true rfl) rfl dL_law_575 ?_
  refine J.aload_n (i := 2) dL_law_578 rfl rfl ?_
  refine J.aload_n (i := 0) dL_law_579 rfl rfl ?_
  refine J.iload_n (i := 3) dL_law_580 rfl rfl ?_
  refine J.iconst (v := 1) dL_law_581 (by decide) ?_
  refine J.iadd dL_law_582 ?_
  refine J.iald (hsc hx' hm m1 1 (by decide)) dL_law_583 ?_
  refine J.aload_n (i := 0) dL_law_584 rfl rfl ?_
  refine J.iload_n (i := 3) dL_law_585 rfl rfl ?_
  refine J.iconst (v := 2) dL_law_586 (by decide) ?_
  refine J.iadd dL_law_587 ?_
  refine J.iald (hsc hx' hm m1 2 (by decide)) dL_law_588 ?_
  refine J.callV (As := [.int (g 1), .int (g 2)]) (k2 := k + 100) (n2 := n + 5000) 9 hDl hRm (bigM (as := [g 1, g 2]) (Rst_d2 hR) (w_X5_wanted f2) rfl) (lw_V q1124 q1125 q1126 q44 q1127) hd_X5_wanted rfl (is27 (Rst_8m hR).choose_spec) rfl (Nat.le_of_ble_eq_true rfl) (Nat.le_of_ble_eq_true rfl) (Nat.add_le_add_left (m := 50) (Nat.le_of_ble_eq_true rfl) _) (Nat.add_le_add_left (m := 2500) (Nat.le_of_ble_eq_true rfl) _) (by omega) (by omega) (Nat.le_of_ble_eq_true rfl) rfl dL_law_589 ?_
  exact J.icmp_eq (tgt := 1266) dL_law_592 (by decide) (fun _ => next hx' hm' hy hs hR') (fun z => absurd rfl z)
set_option maxHeartbeats 4000000 in
theorem lc_pattern {X : jX} {D : va_G} {l : Launch} {c k n sn : Nat} {i : Int32} {sc : Option jO} {hx hm : jH} {g : Nat → Int32} (hDl : jDl X D l) (hRm : jRoom X 2048 94400 603072 7262314) (hl : jNT l) (hc : c < 64) (hR : Rst c hx hm) (hsc : ∀ h1 h2 : jH, h1 1 = some cMost → ∀ q, q < 6 → jaI (mg sc h1 h2) sn .int (i + Int32.ofNat q) = some (g q)) (hk : k ≤ 500000) (hn : n ≤ 7000000) (next : ∀ h1 h2 hy : jH, jsub hy h1 → Rst (c + 1) hy h2 → J X cL_law 4 yL (k + 100) (n + 5000) 1266 [some (.ref sn), some (.ref 26), some (.ref 27), some (.int i)] [] (mg sc h1 h2)) : J X cL_law 4 yL k n 597 [some (.ref sn), some (.ref 26), some (.ref 27), some (.int i)] [] (mg sc hx hm) := by
  obtain ⟨r, hx', hm', hy, f1, f2, hs, hR'⟩ := (law_pattern (g 1) (g 2) (g 3)).S c hx hm hc hR
  have m1 : hx' 1 = some cMost := (hs 1 _ (Rst_1 hR')).1
  refine J.aload_n (i := 1) dL_law_597 rfl rfl ?_
  refine J.aload_n (i := 0) dL_law_598 rfl rfl ?_
  refine J.iload_n (i := 3) dL_law_599 rfl rfl ?_
  refine J.iconst (v := 1) dL_law_600 (by decide) ?_
  refine J.iadd dL_law_601 ?_
  refine J.iald (hsc hx hm (Rst_1 hR) 1 (by decide)) dL_law_602 ?_
  refine J.aload_n (i := 0) dL_law_603 rfl rfl ?_
  refine J.iload_n (i := 3) dL_law_604 rfl rfl ?_
  refine J.iconst (v := 2) dL_law_605 (by decide) ?_
  refine J.iadd dL_law_606 ?_
  refine J.iald (hsc hx hm (Rst_1 hR) 2 (by decide)) dL_law_607 ?_
  refine J.aload_n (i := 0) dL_law_608 rfl rfl ?_
  refine J.iload_n (i := 3) dL_law_609 rfl rfl ?_
  refine J.iconst (v := 3) dL_law_610 (by decide) ?_
  refine J.iadd dL_law_611 ?_
  refine J.iald (hsc hx hm (Rst_1 hR) 3 (by decide)) dL_law_612 ?_
  refine J.callV (As := [.int (g 1), .int (g 2), .int (g 3)]) (k2 := k + 50) (n2 := n + 2500) 0 hDl hRm (bigX (as := [g 1, g 2, g 3]) (Rst_d1 hR) (w_X0_pattern f1) rfl) (lw_V q560 q561 q562 q39 q563) hd_X0_pattern rfl (is26 (Rst_8 hR).choose_spec) rfl (Nat.le_of_ble_eq_true rfl) (Nat.le_of_ble_eq_true rfl) (Nat.add_le_add_left (Nat.le_of_ble_eq_true rfl) _) (Nat.add_le_add_left (Nat.le_of_ble_eq_true rfl) _) (by omega) (by omega) (Nat.le_of_ble_eq_true rfl) rfl dL_law_613 ?_
  refine J.aload_n (i := 2) dL_law_616 rfl rfl ?_
  refine J.aload_n (i := 0) dL_law_617 rfl rfl ?_
  refine J.iload_n (i := 3) dL_law_618 rfl rfl ?_
  refine J.iconst (v := 1) dL_law_619 (by decide) ?_
  refine J.iadd dL_law_620 ?_
  refine J.iald (hsc hx' hm m1 1 (by decide)) dL_law_621 ?_
  refine J.aload_n (i := 0) dL_law_622 rfl rfl ?_
  refine J.iload_n (i := 3) dL_law_623 rfl rfl ?_
  refine J.iconst (v := 2) dL_law_624 (by decide) ?_
  refine J.iadd dL_law_625 ?_
  refine J.iald (hsc hx' hm m1 2 (by decide)) dL_law_626 ?_
  refine J.aload_n (i := 0) dL_law_627 rfl rfl ?_
  refine J.iload_n (i := 3) dL_law_628 rfl rfl ?_
  refine J.iconst (v := 3) dL_law_629 (by decide) ?_
  refine J.iadd dL_law_630 ?_
  refine J.iald (hsc hx' hm m1 3 (by decide)) dL_law_631 ?_
  refine J.callV (As := [.int (g 1), .int (g 2), .int (g 3)]) (k2 := k + 100) (n2 := n + 5000) 9 hDl hRm (bigM (as := [g 1, g 2, g 3]) (Rst_d2 hR) (w_X5_pattern f2) rfl) (lw_V q1128 q1129 q1130 q44 q1131) hd_X5_pattern rfl (is27 (Rst_8m hR).choose_spec) rfl (Nat.le_of_ble_eq_true rfl) (Nat.le_of_ble_eq_true rfl) (Nat.add_le_add_left (m := 50) (Nat.le_of_ble_eq_true rfl) _) (Nat.add_le_add_left (m := 2500) (Nat.le_of_ble_eq_true rfl) _) (by omega) (by omega) (Nat.le_of_ble_eq_true rfl) rfl dL_law_632 ?_
  exact J.icmp_eq (tgt := 1266) dL_law_635 (by decide) (fun _ => next hx' hm' hy hs hR') (fun z => absurd rfl z)
set_option maxHeartbeats 4000000 in
theorem lc_account {X : jX} {D : va_G} {l : Launch} {c k n sn : Nat} {i : Int32} {sc : Option jO} {hx hm : jH} {g : Nat → Int32} (hDl : jDl X D l) (hRm : jRoom X 2048 94400 603072 7262314) (hl : jNT l) (hc : c < 64) (hR : Rst c hx hm) (hsc : ∀ h1 h2 : jH, h1 1 = some cMost → ∀ q, q < 6 → jaI (mg sc h1 h2) sn .int (i + Int32.ofNat q) = some (g q)) (hk : k ≤ 500000) (hn : n ≤ 7000000) (next : ∀ h1 h2 hy : jH, jsub hy h1 → Rst (c + 1) hy h2 → J X cL_law 4 yL (k + 100) (n + 5000) 1266 [some (.ref sn), some (.ref 26), some (.ref 27), some (.int i)] [] (mg sc h1 h2)) : J X cL_law 4 yL k n 640 [some (.ref sn), some (.ref 26), some (.ref 27), some (.int i)] [] (mg sc hx hm) := by
  obtain ⟨r, hx', hm', hy, f1, f2, hs, hR'⟩ := (law_account (g 1)).S c hx hm hc hR
  have m1 : hx' 1 = some cMost := (hs 1 _ (Rst_1 hR')).1
  refine J.aload_n (i := 1) dL_law_640 rfl rfl ?_
  refine J.aload_n (i := 0) dL_law_641 rfl rfl ?_
  refine J.iload_n (i := 3) dL_law_642 rfl rfl ?_
  refine J.iconst (v := 1) dL_law_643 (by decide) ?_
  refine J.iadd dL_law_644 ?_
  refine J.iald (hsc hx hm (Rst_1 hR) 1 (by decide)) dL_law_645 ?_
  refine J.callVW (As := [.int (g 1)]) (k2 := k + 50) (n2 := n + 2500) 0 hDl hRm (bigX (as := [g 1]) (Rst_d1 hR) (w_X0_account hl f1) rfl) (lw_VW q565 q566 q567 q39 q568) hd_X0_account rfl (is26 (Rst_8 hR).choose_spec) rfl (Nat.le_of_ble_eq_true rfl) (Nat.le_of_ble_eq_true rfl) (Nat.add_le_add_left (Nat.le_of_ble_eq_true rfl) _) (Nat.add_le_add_left (Nat.le_of_ble_eq_true rfl) _) (by omega) (by omega) (Nat.le_of_ble_eq_true rfl) rfl dL_law_646 ?_
  refine J.aload_n (i := 2) dL_law_649 rfl rfl ?_
  refine J.aload_n (i := 0) dL_law_650 rfl rfl ?_
  refine J.iload_n (i := 3) dL_law_651 rfl rfl ?_
  refine J.iconst (v := 1) dL_law_652 (by decide) ?_
  refine J.iadd dL_law_653 ?_
  refine J.iald (hsc hx' hm m1 1 (by decide)) dL_law_654 ?_
  refine J.callV (As := [.int (g 1)]) (k2 := k + 100) (n2 := n + 5000) 9 hDl hRm (bigM (as := [g 1]) (Rst_d2 hR) (w_X5_account f2) rfl) (lw_V q1133 q1134 q1135 q44 q1136) hd_X5_account rfl (is27 (Rst_8m hR).choose_spec) rfl (Nat.le_of_ble_eq_true rfl) (Nat.le_of_ble_eq_true rfl) (Nat.add_le_add_left (m := 50) (Nat.le_of_ble_eq_true rfl) _) (Nat.add_le_add_left (m := 2500) (Nat.le_of_ble_eq_true rfl) _) (by omega) (by omega) (Nat.le_of_ble_eq_true rfl) rfl dL_law_655 ?_
  exact J.icmp_eq (tgt := 1266) dL_law_658 (by decide) (fun _ => next hx' hm' hy hs hR') (fun z => absurd rfl z)
set_option maxHeartbeats 4000000 in
theorem lc_stock {X : jX} {D : va_G} {l : Launch} {c k n sn : Nat} {i : Int32} {sc : Option jO} {hx hm : jH} {g : Nat → Int32} (hDl : jDl X D l) (hRm : jRoom X 2048 94400 603072 7262314) (hl : jNT l) (hc : c < 64) (hR : Rst c hx hm) (hsc : ∀ h1 h2 : jH, h1 1 = some cMost → ∀ q, q < 6 → jaI (mg sc h1 h2) sn .int (i + Int32.ofNat q) = some (g q)) (hk : k ≤ 500000) (hn : n ≤ 7000000) (next : ∀ h1 h2 hy : jH, jsub hy h1 → Rst (c + 1) hy h2 → J X cL_law 4 yL (k + 100) (n + 5000) 1266 [some (.ref sn), some (.ref 26), some (.ref 27), some (.int i)] [] (mg sc h1 h2)) : J X cL_law 4 yL k n 663 [some (.ref sn), some (.ref 26), some (.ref 27), some (.int i)] [] (mg sc hx hm) := by
  obtain ⟨r, hx', hm', hy, f1, f2, hs, hR'⟩ := (law_stock (g 1)).S c hx hm hc hR
  have m1 : hx' 1 = some cMost := (hs 1 _ (Rst_1 hR')).1
  refine J.aload_n (i := 1) dL_law_663 rfl rfl ?_
  refine J.aload_n (i := 0) dL_law_664 rfl rfl ?_
  refine J.iload_n (i := 3) dL_law_665 rfl rfl ?_
  refine J.iconst (v := 1) dL_law_666 (by decide) ?_
  refine J.iadd dL_law_667 ?_
  refine J.iald (hsc hx hm (Rst_1 hR) 1 (by decide)) dL_law_668 ?_
  refine J.callV (As := [.int (g 1)]) (k2 := k + 50) (n2 := n + 2500) 0 hDl hRm (bigX (as := [g 1]) (Rst_d1 hR) (w_X0_stock f1) rfl) (lw_V q659 q660 q661 q39 q662) hd_X0_stock rfl (is26 (Rst_8 hR).choose_spec) rfl (Nat.le_of_ble_eq_true rfl) (Nat.le_of_ble_eq_true rfl) (Nat.add_le_add_left (Nat.le_of_ble_eq_true rfl) _) (Nat.add_le_add_left (Nat.le_of_ble_eq_true rfl) _) (by omega) (by omega) (Nat.le_of_ble_eq_true rfl) rfl dL_law_669 ?_
  refine J.aload_n (i := 2) dL_law_672 rfl rfl ?_
  refine J.aload_n (i := 0) dL_law_673 rfl rfl ?_
  refine J.iload_n (i := 3) dL_law_674 rfl rfl ?_
  refine J.iconst (v := 1) dL_law_675 (by decide) ?_
  refine J.iadd dL_law_676 ?_
  refine J.iald (hsc hx' hm m1 1 (by decide)) dL_law_677 ?_
  refine J.callV (As := [.int (g 1)]) (k2 := k + 100) (n2 := n + 5000) 9 hDl hRm (bigM (as := [g 1]) (Rst_d2 hR) (w_X5_stock f2) rfl) (lw_V q1138 q1139 q1140 q44 q1141) hd_X5_stock rfl (is27 (Rst_8m hR).choose_spec) rfl (Nat.le_of_ble_eq_true rfl) (Nat.le_of_ble_eq_true rfl) (Nat.add_le_add_left (m := 50) (Nat.le_of_ble_eq_true rfl) _) (Nat.add_le_add_left (m := 2500) (Nat.le_of_ble_eq_true rfl) _) (by omega) (by omega) (Nat.le_of_ble_eq_true rfl) rfl dL_law_678 ?_
  exact J.icmp_eq (tgt := 1266) dL_law_681 (by decide) (fun _ => next hx' hm' hy hs hR') (fun z => absurd rfl z)
set_option maxHeartbeats 4000000 in
theorem lc_best {X : jX} {D : va_G} {l : Launch} {c k n sn : Nat} {i : Int32} {sc : Option jO} {hx hm : jH} {g : Nat → Int32} (hDl : jDl X D l) (hRm : jRoom X 2048 94400 603072 7262314) (hl : jNT l) (hc : c < 64) (hR : Rst c hx hm) (hsc : ∀ h1 h2 : jH, h1 1 = some cMost → ∀ q, q < 6 → jaI (mg sc h1 h2) sn .int (i + Int32.ofNat q) = some (g q)) (hk : k ≤ 500000) (hn : n ≤ 7000000) (next : ∀ h1 h2 hy : jH, jsub hy h1 → Rst (c + 1) hy h2 → J X cL_law 4 yL (k + 100) (n + 5000) 1266 [some (.ref sn), some (.ref 26), some (.ref 27), some (.int i)] [] (mg sc h1 h2)) : J X cL_law 4 yL k n 686 [some (.ref sn), some (.ref 26), some (.ref 27), some (.int i)] [] (mg sc hx hm) := by
  by_cases hz : g 2 = 0
  · obtain ⟨r, hx', hm', hy, f1, f2, hs, hR'⟩ := (law_best (g 1) (0) (by decide)).S c hx hm hc hR
    have m1 : hx' 1 = some cMost := (hs 1 _ (Rst_1 hR')).1
    refine J.aload_n (i := 1) dL_law_686 rfl rfl ?_
    refine J.aload_n (i := 0) dL_law_687 rfl rfl ?_
    refine J.iload_n (i := 3) dL_law_688 rfl rfl ?_
    refine J.iconst (v := 1) dL_law_689 (by decide) ?_
    refine J.iadd dL_law_690 ?_
    refine J.iald (hsc hx hm (Rst_1 hR) 1 (by decide)) dL_law_691 ?_
    refine J.aload_n (i := 0) dL_law_692 rfl rfl ?_
    refine J.iload_n (i := 3) dL_law_693 rfl rfl ?_
    refine J.iconst (v := 2) dL_law_694 (by decide) ?_
    refine J.iadd dL_law_695 ?_
    refine J.iald (hsc hx hm (Rst_1 hR) 2 (by decide)) dL_law_696 ?_
    refine J.if_eq (tgt := 704) dL_law_697 (by decide) (fun _ => ?_) (fun z => absurd hz z)
    refine J.iconst (v := 0) dL_law_704 (by decide) ?_
    refine J.callV (As := [.int (g 1), .int (0)]) (k2 := k + 50) (n2 := n + 2500) 0 hDl hRm (bigX (as := [g 1, 0]) (Rst_d1 hR) (w_X0_best f1) rfl) (lw_V q663 q664 q665 q39 q666) hd_X0_best rfl (is26 (Rst_8 hR).choose_spec) rfl (Nat.le_of_ble_eq_true rfl) (Nat.le_of_ble_eq_true rfl) (Nat.add_le_add_left (Nat.le_of_ble_eq_true rfl) _) (Nat.add_le_add_left (Nat.le_of_ble_eq_true rfl) _) (by omega) (by omega) (Nat.le_of_ble_eq_true rfl) rfl dL_law_705 ?_
    refine J.aload_n (i := 2) dL_law_708 rfl rfl ?_
    refine J.aload_n (i := 0) dL_law_709 rfl rfl ?_
    refine J.iload_n (i := 3) dL_law_710 rfl rfl ?_
    refine J.iconst (v := 1) dL_law_711 (by decide) ?_
    refine J.iadd dL_law_712 ?_
    refine J.iald (hsc hx' hm m1 1 (by decide)) dL_law_713 ?_
    refine J.aload_n (i := 0) dL_law_714 rfl rfl ?_
    refine J.iload_n (i := 3) dL_law_715 rfl rfl ?_
    refine J.iconst (v := 2) dL_law_716 (by decide) ?_
    refine J.iadd dL_law_717 ?_
    refine J.iald (hsc hx' hm m1 2 (by decide)) dL_law_718 ?_
    refine J.if_eq (tgt := 726) dL_law_719 (by decide) (fun _ => ?_) (fun z => absurd hz z)
    refine J.iconst (v := 0) dL_law_726 (by decide) ?_
    refine J.callV (As := [.int (g 1), .int (0)]) (k2 := k + 100) (n2 := n + 5000) 9 hDl hRm (bigM (as := [g 1, 0]) (Rst_d2 hR) (w_X5_best f2) rfl) (lw_V q1142 q1143 q1144 q44 q1145) hd_X5_best rfl (is27 (Rst_8m hR).choose_spec) rfl (Nat.le_of_ble_eq_true rfl) (Nat.le_of_ble_eq_true rfl) (Nat.add_le_add_left (m := 50) (Nat.le_of_ble_eq_true rfl) _) (Nat.add_le_add_left (m := 2500) (Nat.le_of_ble_eq_true rfl) _) (by omega) (by omega) (Nat.le_of_ble_eq_true rfl) rfl dL_law_727 ?_
    exact J.icmp_eq (tgt := 1266) dL_law_730 (by decide) (fun _ => next hx' hm' hy hs hR') (fun z => absurd rfl z)
  · obtain ⟨r, hx', hm', hy, f1, f2, hs, hR'⟩ := (law_best (g 1) (1) (by decide)).S c hx hm hc hR
    have m1 : hx' 1 = some cMost := (hs 1 _ (Rst_1 hR')).1
    refine J.aload_n (i := 1) dL_law_686 rfl rfl ?_
    refine J.aload_n (i := 0) dL_law_687 rfl rfl ?_
    refine J.iload_n (i := 3) dL_law_688 rfl rfl ?_
    refine J.iconst (v := 1) dL_law_689 (by decide) ?_
    refine J.iadd dL_law_690 ?_
    refine J.iald (hsc hx hm (Rst_1 hR) 1 (by decide)) dL_law_691 ?_
    refine J.aload_n (i := 0) dL_law_692 rfl rfl ?_
    refine J.iload_n (i := 3) dL_law_693 rfl rfl ?_
    refine J.iconst (v := 2) dL_law_694 (by decide) ?_
    refine J.iadd dL_law_695 ?_
    refine J.iald (hsc hx hm (Rst_1 hR) 2 (by decide)) dL_law_696 ?_
    refine J.if_eq (tgt := 704) dL_law_697 (by decide) (fun z => absurd z hz) (fun _ => ?_)
    refine J.iconst (v := 1) dL_law_700 (by decide) ?_
    refine J.goto (tgt := 705) dL_law_701 (by decide) ?_
    refine J.callV (As := [.int (g 1), .int (1)]) (k2 := k + 50) (n2 := n + 2500) 0 hDl hRm (bigX (as := [g 1, 1]) (Rst_d1 hR) (w_X0_best f1) rfl) (lw_V q663 q664 q665 q39 q666) hd_X0_best rfl (is26 (Rst_8 hR).choose_spec) rfl (Nat.le_of_ble_eq_true rfl) (Nat.le_of_ble_eq_true rfl) (Nat.add_le_add_left (Nat.le_of_ble_eq_true rfl) _) (Nat.add_le_add_left (Nat.le_of_ble_eq_true rfl) _) (by omega) (by omega) (Nat.le_of_ble_eq_true rfl) rfl dL_law_705 ?_
    refine J.aload_n (i := 2) dL_law_708 rfl rfl ?_
    refine J.aload_n (i := 0) dL_law_709 rfl rfl ?_
    refine J.iload_n (i := 3) dL_law_710 rfl rfl ?_
    refine J.iconst (v := 1) dL_law_711 (by decide) ?_
    refine J.iadd dL_law_712 ?_
    refine J.iald (hsc hx' hm m1 1 (by decide)) dL_law_713 ?_
    refine J.aload_n (i := 0) dL_law_714 rfl rfl ?_
    refine J.iload_n (i := 3) dL_law_715 rfl rfl ?_
    refine J.iconst (v := 2) dL_law_716 (by decide) ?_
    refine J.iadd dL_law_717 ?_
    refine J.iald (hsc hx' hm m1 2 (by decide)) dL_law_718 ?_
    refine J.if_eq (tgt := 726) dL_law_719 (by decide) (fun z => absurd z hz) (fun _ => ?_)
    refine J.iconst (v := 1) dL_law_722 (by decide) ?_
    refine J.goto (tgt := 727) dL_law_723 (by decide) ?_
    refine J.callV (As := [.int (g 1), .int (1)]) (k2 := k + 100) (n2 := n + 5000) 9 hDl hRm (bigM (as := [g 1, 1]) (Rst_d2 hR) (w_X5_best f2) rfl) (lw_V q1142 q1143 q1144 q44 q1145) hd_X5_best rfl (is27 (Rst_8m hR).choose_spec) rfl (Nat.le_of_ble_eq_true rfl) (Nat.le_of_ble_eq_true rfl) (Nat.add_le_add_left (m := 50) (Nat.le_of_ble_eq_true rfl) _) (Nat.add_le_add_left (m := 2500) (Nat.le_of_ble_eq_true rfl) _) (by omega) (by omega) (Nat.le_of_ble_eq_true rfl) rfl dL_law_727 ?_
    exact J.icmp_eq (tgt := 1266) dL_law_730 (by decide) (fun _ => next hx' hm' hy hs hR') (fun z => absurd rfl z)
set_option maxHeartbeats 4000000 in
theorem lc_job {X : jX} {D : va_G} {l : Launch} {c k n sn : Nat} {i : Int32} {sc : Option jO} {hx hm : jH} {g : Nat → Int32} (hDl : jDl X D l) (hRm : jRoom X 2048 94400 603072 7262314) (hl : jNT l) (hc : c < 64) (hR : Rst c hx hm) (hsc : ∀ h1 h2 : jH, h1 1 = some cMost → ∀ q, q < 6 → jaI (mg sc h1 h2) sn .int (i + Int32.ofNat q) = some (g q)) (hk : k ≤ 500000) (hn : n ≤ 7000000) (next : ∀ h1 h2 hy : jH, jsub hy h1 → Rst (c + 1) hy h2 → J X cL_law 4 yL (k + 100) (n + 5000) 1266 [some (.ref sn), some (.ref 26), some (.ref 27), some (.int i)] [] (mg sc h1 h2)) : J X cL_law 4 yL k n 735 [some (.ref sn), some (.ref 26), some (.ref 27), some (.int i)] [] (mg sc hx hm) := by
  obtain ⟨r, hx', hm', hy, f1, f2, hs, hR'⟩ := (law_job (g 1) (g 2) (g 3)).S c hx hm hc hR
  have m1 : hx' 1 = some cMost := (hs 1 _ (Rst_1 hR')).1
  refine J.aload_n (i := 1) dL_law_735 rfl rfl ?_
  refine J.aload_n (i := 0) dL_law_736 rfl rfl ?_
  refine J.iload_n (i := 3) dL_law_737 rfl rfl ?_
  refine J.iconst (v := 1) dL_law_738 (by decide) ?_
  refine J.iadd dL_law_739 ?_
  refine J.iald (hsc hx hm (Rst_1 hR) 1 (by decide)) dL_law_740 ?_
  refine J.aload_n (i := 0) dL_law_741 rfl rfl ?_
  refine J.iload_n (i := 3) dL_law_742 rfl rfl ?_
  refine J.iconst (v := 2) dL_law_743 (by decide) ?_
  refine J.iadd dL_law_744 ?_
  refine J.iald (hsc hx hm (Rst_1 hR) 2 (by decide)) dL_law_745 ?_
  refine J.aload_n (i := 0) dL_law_746 rfl rfl ?_
  refine J.iload_n (i := 3) dL_law_747 rfl rfl ?_
  refine J.iconst (v := 3) dL_law_748 (by decide) ?_
  refine J.iadd dL_law_749 ?_
  refine J.iald (hsc hx hm (Rst_1 hR) 3 (by decide)) dL_law_750 ?_
  refine J.callV (As := [.int (g 1), .int (g 2), .int (g 3)]) (k2 := k + 50) (n2 := n + 2500) 0 hDl hRm (bigX (as := [g 1, g 2, g 3]) (Rst_d1 hR) (w_X0_job f1) rfl) (lw_V q667 q668 q669 q39 q670) hd_X0_job rfl (is26 (Rst_8 hR).choose_spec) rfl (Nat.le_of_ble_eq_true rfl) (Nat.le_of_ble_eq_true rfl) (Nat.add_le_add_left (Nat.le_of_ble_eq_true rfl) _) (Nat.add_le_add_left (Nat.le_of_ble_eq_true rfl) _) (by omega) (by omega) (Nat.le_of_ble_eq_true rfl) rfl dL_law_751 ?_
  refine J.aload_n (i := 2) dL_law_754 rfl rfl ?_
  refine J.aload_n (i := 0) dL_law_755 rfl rfl ?_
  refine J.iload_n (i := 3) dL_law_756 rfl rfl ?_
  refine J.iconst (v := 1) dL_law_757 (by decide) ?_
  refine J.iadd dL_law_758 ?_
  refine J.iald (hsc hx' hm m1 1 (by decide)) dL_law_759 ?_
  refine J.aload_n (i := 0) dL_law_760 rfl rfl ?_
  refine J.iload_n (i := 3) dL_law_761 rfl rfl ?_
  refine J.iconst (v := 2) dL_law_762 (by decide) ?_
  refine J.iadd dL_law_763 ?_
  refine J.iald (hsc hx' hm m1 2 (by decide)) dL_law_764 ?_
  refine J.aload_n (i := 0) dL_law_765 rfl rfl ?_
  refine J.iload_n (i := 3) dL_law_766 rfl rfl ?_
  refine J.iconst (v := 3) dL_law_767 (by decide) ?_
  refine J.iadd dL_law_768 ?_
  refine J.iald (hsc hx' hm m1 3 (by decide)) dL_law_769 ?_
  refine J.callV (As := [.int (g 1), .int (g 2), .int (g 3)]) (k2 := k + 100) (n2 := n + 5000) 9 hDl hRm (bigM (as := [g 1, g 2, g 3]) (Rst_d2 hR) (w_X5_job f2) rfl) (lw_V q1146 q1147 q1148 q44 q1149) hd_X5_job rfl (is27 (Rst_8m hR).choose_spec) rfl (Nat.le_of_ble_eq_true rfl) (Nat.le_of_ble_eq_true rfl) (Nat.add_le_add_left (m := 50) (Nat.le_of_ble_eq_true rfl) _) (Nat.add_le_add_left (m := 2500) (Nat.le_of_ble_eq_true rfl) _) (by omega) (by omega) (Nat.le_of_ble_eq_true rfl) rfl dL_law_770 ?_
  exact J.icmp_eq (tgt := 1266) dL_law_773 (by decide) (fun _ => next hx' hm' hy hs hR') (fun z => absurd rfl z)
set_option maxHeartbeats 4000000 in
theorem lc_change {X : jX} {D : va_G} {l : Launch} {c k n sn : Nat} {i : Int32} {sc : Option jO} {hx hm : jH} {g : Nat → Int32} (hDl : jDl X D l) (hRm : jRoom X 2048 94400 603072 7262314) (hl : jNT l) (hc : c < 64) (hR : Rst c hx hm) (hsc : ∀ h1 h2 : jH, h1 1 = some cMost → ∀ q, q < 6 → jaI (mg sc h1 h2) sn .int (i + Int32.ofNat q) = some (g q)) (hk : k ≤ 500000) (hn : n ≤ 7000000) (next : ∀ h1 h2 hy : jH, jsub hy h1 → Rst (c + 1) hy h2 → J X cL_law 4 yL (k + 100) (n + 5000) 1266 [some (.ref sn), some (.ref 26), some (.ref 27), some (.int i)] [] (mg sc h1 h2)) : J X cL_law 4 yL k n 778 [some (.ref sn), some (.ref 26), some (.ref 27), some (.int i)] [] (mg sc hx hm) := by
  obtain ⟨r, hx', hm', hy, f1, f2, hs, hR'⟩ := (law_change (g 1)).S c hx hm hc hR
  have m1 : hx' 1 = some cMost := (hs 1 _ (Rst_1 hR')).1
  refine J.aload_n (i := 1) dL_law_778 rfl rfl ?_
  refine J.aload_n (i := 0) dL_law_779 rfl rfl ?_
  refine J.iload_n (i := 3) dL_law_780 rfl rfl ?_
  refine J.iconst (v := 1) dL_law_781 (by decide) ?_
  refine J.iadd dL_law_782 ?_
  refine J.iald (hsc hx hm (Rst_1 hR) 1 (by decide)) dL_law_783 ?_
  refine J.callV (As := [.int (g 1)]) (k2 := k + 50) (n2 := n + 2500) 0 hDl hRm (bigX (as := [g 1]) (Rst_d1 hR) (w_X0_change f1) rfl) (lw_V q671 q672 q673 q39 q674) hd_X0_change rfl (is26 (Rst_8 hR).choose_spec) rfl (Nat.le_of_ble_eq_true rfl) (Nat.le_of_ble_eq_true rfl) (Nat.add_le_add_left (Nat.le_of_ble_eq_true rfl) _) (Nat.add_le_add_left (Nat.le_of_ble_eq_true rfl) _) (by omega) (by omega) (Nat.le_of_ble_eq_true rfl) rfl dL_law_784 ?_
  refine J.aload_n (i := 2) dL_law_787 rfl rfl ?_
  refine J.aload_n (i := 0) dL_law_788 rfl rfl ?_
  refine J.iload_n (i := 3) dL_law_789 rfl rfl ?_
  refine J.iconst (v := 1) dL_law_790 (by decide) ?_
  refine J.iadd dL_law_791 ?_
  refine J.iald (hsc hx' hm m1 1 (by decide)) dL_law_792 ?_
  refine J.callV (As := [.int (g 1)]) (k2 := k + 100) (n2 := n + 5000) 9 hDl hRm (bigM (as := [g 1]) (Rst_d2 hR) (w_X5_change f2) rfl) (lw_V q1150 q1151 q1152 q44 q1153) hd_X5_change rfl (is27 (Rst_8m hR).choose_spec) rfl (Nat.le_of_ble_eq_true rfl) (Nat.le_of_ble_eq_true rfl) (Nat.add_le_add_left (m := 50) (Nat.le_of_ble_eq_true rfl) _) (Nat.add_le_add_left (m := 2500) (Nat.le_of_ble_eq_true rfl) _) (by omega) (by omega) (Nat.le_of_ble_eq_true rfl) rfl dL_law_793 ?_
  exact J.icmp_eq (tgt := 1266) dL_law_796 (by decide) (fun _ => next hx' hm' hy hs hR') (fun z => absurd rfl z)
set_option maxHeartbeats 4000000 in
theorem lc_late {X : jX} {D : va_G} {l : Launch} {c k n sn : Nat} {i : Int32} {sc : Option jO} {hx hm : jH} {g : Nat → Int32} (hDl : jDl X D l) (hRm : jRoom X 2048 94400 603072 7262314) (hl : jNT l) (hc : c < 64) (hR : Rst c hx hm) (hsc : ∀ h1 h2 : jH, h1 1 = some cMost → ∀ q, q < 6 → jaI (mg sc h1 h2) sn .int (i + Int32.ofNat q) = some (g q)) (hk : k ≤ 500000) (hn : n ≤ 7000000) (next : ∀ h1 h2 hy : jH, jsub hy h1 → Rst (c + 1) hy h2 → J X cL_law 4 yL (k + 100) (n + 5000) 1266 [some (.ref sn), some (.ref 26), some (.ref 27), some (.int i)] [] (mg sc h1 h2)) : J X cL_law 4 yL k n 801 [some (.ref sn), some (.ref 26), some (.ref 27), some (.int i)] [] (mg sc hx hm) := by
  obtain ⟨r, hx', hm', hy, f1, f2, hs, hR'⟩ := (law_late).S c hx hm hc hR
  have m1 : hx' 1 = some cMost := (hs 1 _ (Rst_1 hR')).1
  refine J.aload_n (i := 1) dL_law_801 rfl rfl ?_
  refine J.callV (As := []) (k2 := k + 50) (n2 := n + 2500) 0 hDl hRm (bigX (as := []) (Rst_d1 hR) (w_X0_late f1) rfl) (lw_V q675 q676 q677 q39 q678) hd_X0_late rfl (is26 (Rst_8 hR).choose_spec) rfl (Nat.le_of_ble_eq_true rfl) (Nat.le_of_ble_eq_true rfl) (Nat.add_le_add_left (Nat.le_of_ble_eq_true rfl) _) (Nat.add_le_add_left (Nat.le_of_ble_eq_true rfl) _) (by omega) (by omega) (Nat.le_of_ble_eq_true rfl) rfl dL_law_802 ?_
  refine J.aload_n (i := 2) dL_law_805 rfl rfl ?_
  refine J.callV (As := []) (k2 := k + 100) (n2 := n + 5000) 9 hDl hRm (bigM (as := []) (Rst_d2 hR) (w_X5_late f2) rfl) (lw_V q1154 q1155 q1156 q44 q1157) hd_X5_late rfl (is27 (Rst_8m hR).choose_spec) rfl (Nat.le_of_ble_eq_true rfl) (Nat.le_of_ble_eq_true rfl) (Nat.add_le_add_left (m := 50) (Nat.le_of_ble_eq_true rfl) _) (Nat.add_le_add_left (m := 2500) (Nat.le_of_ble_eq_true rfl) _) (by omega) (by omega) (Nat.le_of_ble_eq_true rfl) rfl dL_law_806 ?_
  exact J.icmp_eq (tgt := 1266) dL_law_809 (by decide) (fun _ => next hx' hm' hy hs hR') (fun z => absurd rfl z)
set_option maxHeartbeats 4000000 in
theorem lc_planned {X : jX} {D : va_G} {l : Launch} {c k n sn : Nat} {i : Int32} {sc : Option jO} {hx hm : jH} {g : Nat → Int32} (hDl : jDl X D l) (hRm : jRoom X 2048 94400 603072 7262314) (hl : jNT l) (hc : c < 64) (hR : Rst c hx hm) (hsc : ∀ h1 h2 : jH, h1 1 = some cMost → ∀ q, q < 6 → jaI (mg sc h1 h2) sn .int (i + Int32.ofNat q) = some (g q)) (hk : k ≤ 500000) (hn : n ≤ 7000000) (next : ∀ h1 h2 hy : jH, jsub hy h1 → Rst (c + 1) hy h2 → J X cL_law 4 yL (k + 100) (n + 5000) 1266 [some (.ref sn), some (.ref 26), some (.ref 27), some (.int i)] [] (mg sc h1 h2)) : J X cL_law 4 yL k n 814 [some (.ref sn), some (.ref 26), some (.ref 27), some (.int i)] [] (mg sc hx hm) := by
  obtain ⟨r, hx', hm', hy, f1, f2, hs, hR'⟩ := (law_planned (g 1)).S c hx hm hc hR
  have m1 : hx' 1 = some cMost := (hs 1 _ (Rst_1 hR')).1
  refine J.aload_n (i := 1) dL_law_814 rfl rfl ?_
  refine J.aload_n (i := 0) dL_law_815 rfl rfl ?_
  refine J.iload_n (i := 3) dL_law_816 rfl rfl ?_
  refine J.iconst (v := 1) dL_law_817 (by decide) ?_
  refine J.iadd dL_law_818 ?_
  refine J.iald (hsc hx hm (Rst_1 hR) 1 (by decide)) dL_law_819 ?_
  refine J.callV (As := [.int (g 1)]) (k2 := k + 50) (n2 := n + 2500) 0 hDl hRm (bigX (as := [g 1]) (Rst_d1 hR) (w_X0_planned f1) rfl) (lw_V q692 q693 q694 q39 q695) hd_X0_planned rfl (is26 (Rst_8 hR).choose_spec) rfl (Nat.le_of_ble_eq_true rfl) (Nat.le_of_ble_eq_true rfl) (Nat.add_le_add_left (Nat.le_of_ble_eq_true rfl) _) (Nat.add_le_add_left (Nat.le_of_ble_eq_true rfl) _) (by omega) (by omega) (Nat.le_of_ble_eq_true rfl) rfl dL_law_820 ?_
  refine J.aload_n (i := 2) dL_law_823 rfl rfl ?_
  refine J.aload_n (i := 0) dL_law_824 rfl rfl ?_
  refine J.iload_n (i := 3) dL_law_825 rfl rfl ?_
  refine J.iconst (v := 1) dL_law_826 (by decide) ?_
  refine J.iadd dL_law_827 ?_
  refine J.iald (hsc hx' hm m1 1 (by decide)) dL_law_828 ?_
  refine J.callV (As := [.int (g 1)]) (k2 := k + 100) (n2 := n + 5000) 9 hDl hRm (bigM (as := [g 1]) (Rst_d2 hR) (w_X5_planned f2) rfl) (lw_V q1166 q1167 q1168 q44 q1169) hd_X5_planned rfl (is27 (Rst_8m hR).choose_spec) rfl (Nat.le_of_ble_eq_true rfl) (Nat.le_of_ble_eq_true rfl) (Nat.add_le_add_left (m := 50) (Nat.le_of_ble_eq_true rfl) _) (Nat.add_le_add_left (m := 2500) (Nat.le_of_ble_eq_true rfl) _) (by omega) (by omega) (Nat.le_of_ble_eq_true rfl) rfl dL_law_829 ?_
  exact J.icmp_eq (tgt := 1266) dL_law_832 (by decide) (fun _ => next hx' hm' hy hs hR') (fun z => absurd rfl z)
set_option maxHeartbeats 4000000 in
theorem lc_room {X : jX} {D : va_G} {l : Launch} {c k n sn : Nat} {i : Int32} {sc : Option jO} {hx hm : jH} {g : Nat → Int32} (hDl : jDl X D l) (hRm : jRoom X 2048 94400 603072 7262314) (hl : jNT l) (hc : c < 64) (hR : Rst c hx hm) (hsc : ∀ h1 h2 : jH, h1 1 = some cMost → ∀ q, q < 6 → jaI (mg sc h1 h2) sn .int (i + Int32.ofNat q) = some (g q)) (hk : k ≤ 500000) (hn : n ≤ 7000000) (next : ∀ h1 h2 hy : jH, jsub hy h1 → Rst (c + 1) hy h2 → J X cL_law 4 yL (k + 100) (n + 5000) 1266 [some (.ref sn), some (.ref 26), some (.ref 27), some (.int i)] [] (mg sc h1 h2)) : J X cL_law 4 yL k n 837 [some (.ref sn), some (.ref 26), some (.ref 27), some (.int i)] [] (mg sc hx hm) := by
  obtain ⟨r, hx', hm', hy, f1, f2, hs, hR'⟩ := (law_room (g 1)).S c hx hm hc hR
  have m1 : hx' 1 = some cMost := (hs 1 _ (Rst_1 hR')).1
  refine J.aload_n (i := 1) dL_law_837 rfl rfl ?_
  refine J.aload_n (i := 0) dL_law_838 rfl rfl ?_
  refine J.iload_n (i := 3) dL_law_839 rfl rfl ?_
  refine J.iconst (v := 1) dL_law_840 (by decide) ?_
  refine J.iadd dL_law_841 ?_
  refine J.iald (hsc hx hm (Rst_1 hR) 1 (by decide)) dL_law_842 ?_
  refine J.callV (As := [.int (g 1)]) (k2 := k + 50) (n2 := n + 2500) 0 hDl hRm (bigX (as := [g 1]) (Rst_d1 hR) (w_X0_room f1) rfl) (lw_V q696 q697 q698 q39 q699) hd_X0_room rfl (is26 (Rst_8 hR).choose_spec) rfl (Nat.le_of_ble_eq_true rfl) (Nat.le_of_ble_eq_true rfl) (Nat.add_le_add_left (Nat.le_of_ble_eq_true rfl) _) (Nat.add_le_add_left (Nat.le_of_ble_eq_true rfl) _) (by omega) (by omega) (Nat.le_of_ble_eq_true rfl) rfl dL_law_843 ?_
  refine J.aload_n (i := 2) dL_law_846 rfl rfl ?_
  refine J.aload_n (i := 0) dL_law_847 rfl rfl ?_
  refine J.iload_n (i := 3) dL_law_848 rfl rfl ?_
  refine J.iconst (v := 1) dL_law_849 (by decide) ?_
  refine J.iadd dL_law_850 ?_
  refine J.iald (hsc hx' hm m1 1 (by decide)) dL_law_851 ?_
  refine J.callV (As := [.int (g 1)]) (k2 := k + 100) (n2 := n + 5000) 9 hDl hRm (bigM (as := [g 1]) (Rst_d2 hR) (w_X5_room f2) rfl) (lw_V q1170 q1171 q1172 q44 q1173) hd_X5_room rfl (is27 (Rst_8m hR).choose_spec) rfl (Nat.le_of_ble_eq_true rfl) (Nat.le_of_ble_eq_true rfl) (Nat.add_le_add_left (m := 50) (Nat.le_of_ble_eq_true rfl) _) (Nat.add_le_add_left (m := 2500) (Nat.le_of_ble_eq_true rfl) _) (by omega) (by omega) (Nat.le_of_ble_eq_true rfl) rfl dL_law_852 ?_
  exact J.icmp_eq (tgt := 1266) dL_law_855 (by decide) (fun _ => next hx' hm' hy hs hR') (fun z => absurd rfl z)
set_option maxHeartbeats 4000000 in
theorem lc_age {X : jX} {D : va_G} {l : Launch} {c k n sn : Nat} {i : Int32} {sc : Option jO} {hx hm : jH} {g : Nat → Int32} (hDl : jDl X D l) (hRm : jRoom X 2048 94400 603072 7262314) (hl : jNT l) (hc : c < 64) (hR : Rst c hx hm) (hsc : ∀ h1 h2 : jH, h1 1 = some cMost → ∀ q, q < 6 → jaI (mg sc h1 h2) sn .int (i + Int32.ofNat q) = some (g q)) (hk : k ≤ 500000) (hn : n ≤ 7000000) (next : ∀ h1 h2 hy : jH, jsub hy h1 → Rst (c + 1) hy h2 → J X cL_law 4 yL (k + 100) (n + 5000) 1266 [some (.ref sn), some (.ref 26), some (.ref 27), some (.int i)] [] (mg sc h1 h2)) : J X cL_law 4 yL k n 860 [some (.ref sn), some (.ref 26), some (.ref 27), some (.int i)] [] (mg sc hx hm) := by
  obtain ⟨r, hx', hm', hy, f1, f2, hs, hR'⟩ := (law_age).S c hx hm hc hR
  have m1 : hx' 1 = some cMost := (hs 1 _ (Rst_1 hR')).1
  refine J.aload_n (i := 1) dL_law_860 rfl rfl ?_
  refine J.callV (As := []) (k2 := k + 50) (n2 := n + 2500) 0 hDl hRm (bigX (as := []) (Rst_d1 hR) (w_X0_age f1) rfl) (lw_V q701 q702 q703 q39 q704) hd_X0_age rfl (is26 (Rst_8 hR).choose_spec) rfl (Nat.le_of_ble_eq_true rfl) (Nat.le_of_ble_eq_true rfl) (Nat.add_le_add_left (Nat.le_of_ble_eq_true rfl) _) (Nat.add_le_add_left (Nat.le_of_ble_eq_true rfl) _) (by omega) (by omega) (Nat.le_of_ble_eq_true rfl) rfl dL_law_861 ?_
  refine J.aload_n (i := 2) dL_law_864 rfl rfl ?_
  refine J.callV (As := []) (k2 := k + 100) (n2 := n + 5000) 9 hDl hRm (bigM (as := []) (Rst_d2 hR) (w_X5_age f2) rfl) (lw_V q1175 q1176 q1177 q44 q1178) hd_X5_age rfl (is27 (Rst_8m hR).choose_spec) rfl (Nat.le_of_ble_eq_true rfl) (Nat.le_of_ble_eq_true rfl) (Nat.add_le_add_left (m := 50) (Nat.le_of_ble_eq_true rfl) _) (Nat.add_le_add_left (m := 2500) (Nat.le_of_ble_eq_true rfl) _) (by omega) (by omega) (Nat.le_of_ble_eq_true rfl) rfl dL_law_865 ?_
  exact J.icmp_eq (tgt := 1266) dL_law_868 (by decide) (fun _ => next hx' hm' hy hs hR') (fun z => absurd rfl z)
set_option maxHeartbeats 4000000 in
theorem lc_batches {X : jX} {D : va_G} {l : Launch} {c k n sn : Nat} {i : Int32} {sc : Option jO} {hx hm : jH} {g : Nat → Int32} (hDl : jDl X D l) (hRm : jRoom X 2048 94400 603072 7262314) (hl : jNT l) (hc : c < 64) (hR : Rst c hx hm) (hsc : ∀ h1 h2 : jH, h1 1 = some cMost → ∀ q, q < 6 → jaI (mg sc h1 h2) sn .int (i + Int32.ofNat q) = some (g q)) (hk : k ≤ 500000) (hn : n ≤ 7000000) (next : ∀ h1 h2 hy : jH, jsub hy h1 → Rst (c + 1) hy h2 → J X cL_law 4 yL (k + 100) (n + 5000) 1266 [some (.ref sn), some (.ref 26), some (.ref 27), some (.int i)] [] (mg sc h1 h2)) : J X cL_law 4 yL k n 873 [some (.ref sn), some (.ref 26), some (.ref 27), some (.int i)] [] (mg sc hx hm) := by
  obtain ⟨r, hx', hm', hy, f1, f2, hs, hR'⟩ := (law_batches).S c hx hm hc hR
  have m1 : hx' 1 = some cMost := (hs 1 _ (Rst_1 hR')).1
  refine J.aload_n (i := 1) dL_law_873 rfl rfl ?_
  refine J.callV (As := []) (k2 := k + 50) (n2 := n + 2500) 0 hDl hRm (bigX (as := []) (Rst_d1 hR) (w_X0_batches f1) rfl) (lw_V q709 q710 q711 q39 q712) hd_X0_batches rfl (is26 (Rst_8 hR).choose_spec) rfl (Nat.le_of_ble_eq_true rfl) (Nat.le_of_ble_eq_true rfl) (Nat.add_le_add_left (Nat.le_of_ble_eq_true rfl) _) (Nat.add_le_add_left (Nat.le_of_ble_eq_true rfl) _) (by omega) (by omega) (Nat.le_of_ble_eq_true rfl) rfl dL_law_874 ?_
  refine J.aload_n (i := 2) dL_law_877 rfl rfl ?_
  refine J.callV (As := []) (k2 := k + 100) (n2 := n + 5000) 9 hDl hRm (bigM (as := []) (Rst_d2 hR) (w_X5_batches f2) rfl) (lw_V q1191 q1192 q1193 q44 q1194) hd_X5_batches rfl (is27 (Rst_8m hR).choose_spec) rfl (Nat.le_of_ble_eq_true rfl) (Nat.le_of_ble_eq_true rfl) (Nat.add_le_add_left (m := 50) (Nat.le_of_ble_eq_true rfl) _) (Nat.add_le_add_left (m := 2500) (Nat.le_of_ble_eq_true rfl) _) (by omega) (by omega) (Nat.le_of_ble_eq_true rfl) rfl dL_law_878 ?_
  exact J.icmp_eq (tgt := 1266) dL_law_881 (by decide) (fun _ => next hx' hm' hy hs hR') (fun z => absurd rfl z)
set_option maxHeartbeats 4000000 in
theorem lc_sample {X : jX} {D : va_G} {l : Launch} {c k n sn : Nat} {i : Int32} {sc : Option jO} {hx hm : jH} {g : Nat → Int32} (hDl : jDl X D l) (hRm : jRoom X 2048 94400 603072 7262314) (hl : jNT l) (hc : c < 64) (hR : Rst c hx hm) (hsc : ∀ h1 h2 : jH, h1 1 = some cMost → ∀ q, q < 6 → jaI (mg sc h1 h2) sn .int (i + Int32.ofNat q) = some (g q)) (hk : k ≤ 500000) (hn : n ≤ 7000000) (next : ∀ h1 h2 hy : jH, jsub hy h1 → Rst (c + 1) hy h2 → J X cL_law 4 yL (k + 100) (n + 5000) 1266 [some (.ref sn), some (.ref 26), some (.ref 27), some (.int i)] [] (mg sc h1 h2)) : J X cL_law 4 yL k n 886 [some (.ref sn), some (.ref 26), some (.ref 27), some (.int i)] [] (mg sc hx hm) := by
  by_cases hz : g 2 = 0
  · obtain ⟨r, hx', hm', hy, f1, f2, hs, hR'⟩ := (law_sample (g 1) (0)).S c hx hm hc hR
    have m1 : hx' 1 = some cMost := (hs 1 _ (Rst_1 hR')).1
    refine J.aload_n (i := 1) dL_law_886 rfl rfl ?_
    refine J.aload_n (i := 0) dL_law_887 rfl rfl ?_
    refine J.iload_n (i := 3) dL_law_888 rfl rfl ?_
    refine J.iconst (v := 1) dL_law_889 (by decide) ?_
    refine J.iadd dL_law_890 ?_
    refine J.iald (hsc hx hm (Rst_1 hR) 1 (by decide)) dL_law_891 ?_
    refine J.aload_n (i := 0) dL_law_892 rfl rfl ?_
    refine J.iload_n (i := 3) dL_law_893 rfl rfl ?_
    refine J.iconst (v := 2) dL_law_894 (by decide) ?_
    refine J.iadd dL_law_895 ?_
    refine J.iald (hsc hx hm (Rst_1 hR) 2 (by decide)) dL_law_896 ?_
    refine J.if_eq (tgt := 904) dL_law_897 (by decide) (fun _ => ?_) (fun z => absurd hz z)
    refine J.iconst (v := 0) dL_law_904 (by decide) ?_
    refine J.callV (As := [.int (g 1), .int (0)]) (k2 := k + 50) (n2 := n + 2500) 0 hDl hRm (bigX (as := [g 1, 0]) (Rst_d1 hR) (w_X0_sample f1) rfl) (lw_V q713 q714 q715 q39 q716) hd_X0_sample rfl (is26 (Rst_8 hR).choose_spec) rfl (Nat.le_of_ble_eq_true rfl) (Nat.le_of_ble_eq_true rfl) (Nat.add_le_add_left (Nat.le_of_ble_eq_true rfl) _) (Nat.add_le_add_left (Nat.le_of_ble_eq_true rfl) _) (by omega) (by omega) (Nat.le_of_ble_eq_true rfl) rfl dL_law_905 ?_
    refine J.aload_n (i := 2) dL_law_908 rfl rfl ?_
    refine J.aload_n (i := 0) dL_law_909 rfl rfl ?_
    refine J.iload_n (i := 3) dL_law_910 rfl rfl ?_
    refine J.iconst (v := 1) dL_law_911 (by decide) ?_
    refine J.iadd dL_law_912 ?_
    refine J.iald (hsc hx' hm m1 1 (by decide)) dL_law_913 ?_
    refine J.aload_n (i := 0) dL_law_914 rfl rfl ?_
    refine J.iload_n (i := 3) dL_law_915 rfl rfl ?_
    refine J.iconst (v := 2) dL_law_916 (by decide) ?_
    refine J.iadd dL_law_917 ?_
    refine J.iald (hsc hx' hm m1 2 (by decide)) dL_law_918 ?_
    refine J.if_eq (tgt := 926) dL_law_919 (by decide) (fun _ => ?_) (fun z => absurd hz z)
    refine J.iconst (v := 0) dL_law_926 (by decide) ?_
    refine J.callV (As := [.int (g 1), .int (0)]) (k2 := k + 100) (n2 := n + 5000) 9 hDl hRm (bigM (as := [g 1, 0]) (Rst_d2 hR) (w_X5_sample f2) rfl) (lw_V q1195 q1196 q1197 q44 q1198) hd_X5_sample rfl (is27 (Rst_8m hR).choose_spec) rfl (Nat.le_of_ble_eq_true rfl) (Nat.le_of_ble_eq_true rfl) (Nat.add_le_add_left (m := 50) (Nat.le_of_ble_eq_true rfl) _) (Nat.add_le_add_left (m := 2500) (Nat.le_of_ble_eq_true rfl) _) (by omega) (by omega) (Nat.le_of_ble_eq_true rfl) rfl dL_law_927 ?_
    exact J.icmp_eq (tgt := 1266) dL_law_930 (by decide) (fun _ => next hx' hm' hy hs hR') (fun z => absurd rfl z)
  · obtain ⟨r, hx', hm', hy, f1, f2, hs, hR'⟩ := (law_sample (g 1) (1)).S c hx hm hc hR
    have m1 : hx' 1 = some cMost := (hs 1 _ (Rst_1 hR')).1
    refine J.aload_n (i := 1) dL_law_886 rfl rfl ?_
    refine J.aload_n (i := 0) dL_law_887 rfl rfl ?_
    refine J.iload_n (i := 3) dL_law_888 rfl rfl ?_
    refine J.iconst (v := 1) dL_law_889 (by decide) ?_
    refine J.iadd dL_law_890 ?_
    refine J.iald (hsc hx hm (Rst_1 hR) 1 (by decide)) dL_law_891 ?_
    refine J.aload_n (i := 0) dL_law_892 rfl rfl ?_
    refine J.iload_n (i := 3) dL_law_893 rfl rfl ?_
    refine J.iconst (v := 2) dL_law_894 (by decide) ?_
    refine J.iadd dL_law_895 ?_
    refine J.iald (hsc hx hm (Rst_1 hR) 2 (by decide)) dL_law_896 ?_
    refine J.if_eq (tgt := 904) dL_law_897 (by decide) (fun z => absurd z hz) (fun _ => ?_)
    refine J.iconst (v := 1) dL_law_900 (by decide) ?_
    refine J.goto (tgt := 905) dL_law_901 (by decide) ?_
    refine J.callV (As := [.int (g 1), .int (1)]) (k2 := k + 50) (n2 := n + 2500) 0 hDl hRm (bigX (as := [g 1, 1]) (Rst_d1 hR) (w_X0_sample f1) rfl) (lw_V q713 q714 q715 q39 q716) hd_X0_sample rfl (is26 (Rst_8 hR).choose_spec) rfl (Nat.le_of_ble_eq_true rfl) (Nat.le_of_ble_eq_true rfl) (Nat.add_le_add_left (Nat.le_of_ble_eq_true rfl) _) (Nat.add_le_add_left (Nat.le_of_ble_eq_true rfl) _) (by omega) (by omega) (Nat.le_of_ble_eq_true rfl) rfl dL_law_905 ?_
    refine J.aload_n (i := 2) dL_law_908 rfl rfl ?_
    refine J.aload_n (i := 0) dL_law_909 rfl rfl ?_
    refine J.iload_n (i := 3) dL_law_910 rfl rfl ?_
    refine J.iconst (v := 1) dL_law_911 (by decide) ?_
    refine J.iadd dL_law_912 ?_
    refine J.iald (hsc hx' hm m1 1 (by decide)) dL_law_913 ?_
    refine J.aload_n (i := 0) dL_law_914 rfl rfl ?_
    refine J.iload_n (i := 3) dL_law_915 rfl rfl ?_
    refine J.iconst (v := 2) dL_law_916 (by decide) ?_
    refine J.iadd dL_law_917 ?_
    refine J.iald (hsc hx' hm m1 2 (by decide)) dL_law_918 ?_
    refine J.if_eq (tgt := 926) dL_law_919 (by decide) (fun z => absurd z hz) (fun _ => ?_)
    refine J.iconst (v := 1) dL_law_922 (by decide) ?_
    refine J.goto (tgt := 927) dL_law_923 (by decide) ?_
    refine J.callV (As := [.int (g 1), .int (1)]) (k2 := k + 100) (n2 := n + 5000) 9 hDl hRm (bigM (as := [g 1, 1]) (Rst_d2 hR) (w_X5_sample f2) rfl) (lw_V q1195 q1196 q1197 q44 q1198) hd_X5_sample rfl (is27 (Rst_8m hR).choose_spec) rfl (Nat.le_of_ble_eq_true rfl) (Nat.le_of_ble_eq_true rfl) (Nat.add_le_add_left (m := 50) (Nat.le_of_ble_eq_true rfl) _) (Nat.add_le_add_left (m := 2500) (Nat.le_of_ble_eq_true rfl) _) (by omega) (by omega) (Nat.le_of_ble_eq_true rfl) rfl dL_law_927 ?_
    exact J.icmp_eq (tgt := 1266) dL_law_930 (by decide) (fun _ => next hx' hm' hy hs hR') (fun z => absurd rfl z)
set_option maxHeartbeats 4000000 in
theorem lc_suspect {X : jX} {D : va_G} {l : Launch} {c k n sn : Nat} {i : Int32} {sc : Option jO} {hx hm : jH} {g : Nat → Int32} (hDl : jDl X D l) (hRm : jRoom X 2048 94400 603072 7262314) (hl : jNT l) (hc : c < 64) (hR : Rst c hx hm) (hsc : ∀ h1 h2 : jH, h1 1 = some cMost → ∀ q, q < 6 → jaI (mg sc h1 h2) sn .int (i + Int32.ofNat q) = some (g q)) (hk : k ≤ 500000) (hn : n ≤ 7000000) (next : ∀ h1 h2 hy : jH, jsub hy h1 → Rst (c + 1) hy h2 → J X cL_law 4 yL (k + 100) (n + 5000) 1266 [some (.ref sn), some (.ref 26), some (.ref 27), some (.int i)] [] (mg sc h1 h2)) : J X cL_law 4 yL k n 935 [some (.ref sn), some (.ref 26), some (.ref 27), some (.int i)] [] (mg sc hx hm) := by
  obtain ⟨r, hx', hm', hy, f1, f2, hs, hR'⟩ := (law_suspect (g 1)).S c hx hm hc hR
  have m1 : hx' 1 = some cMost := (hs 1 _ (Rst_1 hR')).1
  refine J.aload_n (i := 1) dL_law_935 rfl rfl ?_
  refine J.aload_n (i := 0) dL_law_936 rfl rfl ?_
  refine J.iload_n (i := 3) dL_law_937 rfl rfl ?_
  refine J.iconst (v := 1) dL_law_938 (by decide) ?_
  refine J.iadd dL_law_939 ?_
  refine J.iald (hsc hx hm (Rst_1 hR) 1 (by decide)) dL_law_940 ?_
  refine J.callV (As := [.int (g 1)]) (k2 := k + 50) (n2 := n + 2500) 0 hDl hRm (bigX (as := [g 1]) (Rst_d1 hR) (w_X0_suspect f1) rfl) (lw_V q717 q718 q719 q39 q720) hd_X0_suspect rfl (is26 (Rst_8 hR).choose_spec) rfl (Nat.le_of_ble_eq_true rfl) (Nat.le_of_ble_eq_true rfl) (Nat.add_le_add_left (Nat.le_of_ble_eq_true rfl) _) (Nat.add_le_add_left (Nat.le_of_ble_eq_true rfl) _) (by omega) (by omega) (Nat.le_of_ble_eq_true rfl) rfl dL_law_941 ?_
  refine J.aload_n (i := 2) dL_law_944 rfl rfl ?_
  refine J.aload_n (i := 0) dL_law_945 rfl rfl ?_
  refine J.iload_n (i := 3) dL_law_946 rfl rfl ?_
  refine J.iconst (v := 1) dL_law_947 (by decide) ?_
  refine J.iadd dL_law_948 ?_
  refine J.iald (hsc hx' hm m1 1 (by decide)) dL_law_949 ?_
  refine J.callV (As := [.int (g 1)]) (k2 := k + 100) (n2 := n + 5000) 9 hDl hRm (bigM (as := [g 1]) (Rst_d2 hR) (w_X5_suspect f2) rfl) (lw_V q1199 q1200 q1201 q44 q1202) hd_X5_suspect rfl (is27 (Rst_8m hR).choose_spec) rfl (Nat.le_of_ble_eq_true rfl) (Nat.le_of_ble_eq_true rfl) (Nat.add_le_add_left (m := 50) (Nat.le_of_ble_eq_true rfl) _) (Nat.add_le_add_left (m := 2500) (Nat.le_of_ble_eq_true rfl) _) (by omega) (by omega) (Nat.le_of_ble_eq_true rfl) rfl dL_law_950 ?_
  exact J.icmp_eq (tgt := 1266) dL_law_953 (by decide) (fun _ => next hx' hm' hy hs hR') (fun z => absurd rfl z)
set_option maxHeartbeats 4000000 in
theorem lc_held {X : jX} {D : va_G} {l : Launch} {c k n sn : Nat} {i : Int32} {sc : Option jO} {hx hm : jH} {g : Nat → Int32} (hDl : jDl X D l) (hRm : jRoom X 2048 94400 603072 7262314) (hl : jNT l) (hc : c < 64) (hR : Rst c hx hm) (hsc : ∀ h1 h2 : jH, h1 1 = some cMost → ∀ q, q < 6 → jaI (mg sc h1 h2) sn .int (i + Int32.ofNat q) = some (g q)) (hk : k ≤ 500000) (hn : n ≤ 7000000) (next : ∀ h1 h2 hy : jH, jsub hy h1 → Rst (c + 1) hy h2 → J X cL_law 4 yL (k + 100) (n + 5000) 1266 [some (.ref sn), some (.ref 26), some (.ref 27), some (.int i)] [] (mg sc h1 h2)) : J X cL_law 4 yL k n 958 [some (.ref sn), some (.ref 26), some (.ref 27), some (.int i)] [] (mg sc hx hm) := by
  obtain ⟨r, hx', hm', hy, f1, f2, hs, hR'⟩ := (law_held).S c hx hm hc hR
  have m1 : hx' 1 = some cMost := (hs 1 _ (Rst_1 hR')).1
  refine J.aload_n (i := 1) dL_law_958 rfl rfl ?_
  refine J.callV (As := []) (k2 := k + 50) (n2 := n + 2500) 0 hDl hRm (bigX (as := []) (Rst_d1 hR) (w_X0_held f1) rfl) (lw_V q729 q730 q731 q39 q732) hd_X0_held rfl (is26 (Rst_8 hR).choose_spec) rfl (Nat.le_of_ble_eq_true rfl) (Nat.le_of_ble_eq_true rfl) (Nat.add_le_add_left (Nat.le_of_ble_eq_true rfl) _) (Nat.add_le_add_left (Nat.le_of_ble_eq_true rfl) _) (by omega) (by omega) (Nat.le_of_ble_eq_true rfl) rfl dL_law_959 ?_
  refine J.aload_n (i := 2) dL_law_962 rfl rfl ?_
  refine J.callV (As := []) (k2 := k + 100) (n2 := n + 5000) 9 hDl hRm (bigM (as := []) (Rst_d2 hR) (w_X5_held f2) rfl) (lw_V q1207 q1208 q1209 q44 q1210) hd_X5_held rfl (is27 (Rst_8m hR).choose_spec) rfl (Nat.le_of_ble_eq_true rfl) (Nat.le_of_ble_eq_true rfl) (Nat.add_le_add_left (m := 50) (Nat.le_of_ble_eq_true rfl) _) (Nat.add_le_add_left (m := 2500) (Nat.le_of_ble_eq_true rfl) _) (by omega) (by omega) (Nat.le_of_ble_eq_true rfl) rfl dL_law_963 ?_
  exact J.icmp_eq (tgt := 1266) dL_law_966 (by decide) (fun _ => next hx' hm' hy hs hR') (fun z => absurd rfl z)
set_option maxHeartbeats 4000000 in
theorem lc_drift {X : jX} {D : va_G} {l : Launch} {c k n sn : Nat} {i : Int32} {sc : Option jO} {hx hm : jH} {g : Nat → Int32} (hDl : jDl X D l) (hRm : jRoom X 2048 94400 603072 7262314) (hl : jNT l) (hc : c < 64) (hR : Rst c hx hm) (hsc : ∀ h1 h2 : jH, h1 1 = some cMost → ∀ q, q < 6 → jaI (mg sc h1 h2) sn .int (i + Int32.ofNat q) = some (g q)) (hk : k ≤ 500000) (hn : n ≤ 7000000) (next : ∀ h1 h2 hy : jH, jsub hy h1 → Rst (c + 1) hy h2 → J X cL_law 4 yL (k + 100) (n + 5000) 1266 [some (.ref sn), some (.ref 26), some (.ref 27), some (.int i)] [] (mg sc h1 h2)) : J X cL_law 4 yL k n 971 [some (.ref sn), some (.ref 26), some (.ref 27), some (.int i)] [] (mg sc hx hm) := by
  obtain ⟨r, hx', hm', hy, f1, f2, hs, hR'⟩ := (law_drift (g 1) (g 2)).S c hx hm hc hR
  have m1 : hx' 1 = some cMost := (hs 1 _ (Rst_1 hR')).1
  refine J.aload_n (i := 1) dL_law_971 rfl rfl ?_
  refine J.aload_n (i := 0) dL_law_972 rfl rfl ?_
  refine J.iload_n (i := 3) dL_law_973 rfl rfl ?_
  refine J.iconst (v := 1) dL_law_974 (by decide) ?_
  refine J.iadd dL_law_975 ?_
  refine J.iald (hsc hx hm (Rst_1 hR) 1 (by decide)) dL_law_976 ?_
  refine J.aload_n (i := 0) dL_law_977 rfl rfl ?_
  refine J.iload_n (i := 3) dL_law_978 rfl rfl ?_
  refine J.iconst (v := 2) dL_law_979 (by decide) ?_
  refine J.iadd dL_law_980 ?_
  refine J.iald (hsc hx hm (Rst_1 hR) 2 (by decide)) dL_law_981 ?_
  refine J.callV (As := [.int (g 1), .int (g 2)]) (k2 := k + 50) (n2 := n + 2500) 0 hDl hRm (bigX (as := [g 1, g 2]) (Rst_d1 hR) (w_X0_drift f1) rfl) (lw_V q733 q734 q735 q39 q736) hd_X0_drift rfl (is26 (Rst_8 hR).choose_spec) rfl (Nat.le_of_ble_eq_true rfl) (Nat.le_of_ble_eq_true rfl) (Nat.add_le_add_left (Nat.le_of_ble_eq_true rfl) _) (Nat.add_le_add_left (Nat.le_of_ble_eq_true rfl) _) (by omega) (by omega) (Nat.le_of_ble_eq_true rfl) rfl dL_law_982 ?_
  refine J.aload_n (i := 2) dL_law_985 rfl rfl ?_
  refine J.aload_n (i := 0) dL_law_986 rfl rfl ?_
  refine J.iload_n (i := 3) dL_law_987 rfl rfl ?_
  refine J.iconst (v := 1) dL_law_988 (by decide) ?_
  refine J.iadd dL_law_989 ?_
  refine J.iald (hsc hx' hm m1 1 (by decide)) dL_law_990 ?_
  refine J.aload_n (i := 0) dL_law_991 rfl rfl ?_
  refine J.iload_n (i := 3) dL_law_992 rfl rfl ?_
  refine J.iconst (v := 2) dL_law_993 (by decide) ?_
  refine J.iadd dL_law_994 ?_
  refine J.iald (hsc hx' hm m1 2 (by decide)) dL_law_995 ?_
  refine J.callV (As := [.int (g 1), .int (g 2)]) (k2 := k + 100) (n2 := n + 5000) 9 hDl hRm (bigM (as := [g 1, g 2]) (Rst_d2 hR) (w_X5_drift f2) rfl) (lw_V q1211 q1212 q1213 q44 q1214) hd_X5_drift rfl (is27 (Rst_8m hR).choose_spec) rfl (Nat.le_of_ble_eq_true rfl) (Nat.le_of_ble_eq_true rfl) (Nat.add_le_add_left (m := 50) (Nat.le_of_ble_eq_true rfl) _) (Nat.add_le_add_left (m := 2500) (Nat.le_of_ble_eq_true rfl) _) (by omega) (by omega) (Nat.le_of_ble_eq_true rfl) rfl dL_law_996 ?_
  exact J.icmp_eq (tgt := 1266) dL_law_999 (by decide) (fun _ => next hx' hm' hy hs hR') (fun z => absurd rfl z)
set_option maxHeartbeats 4000000 in
theorem lc_sheet {X : jX} {D : va_G} {l : Launch} {c k n sn : Nat} {i : Int32} {sc : Option jO} {hx hm : jH} {g : Nat → Int32} (hDl : jDl X D l) (hRm : jRoom X 2048 94400 603072 7262314) (hl : jNT l) (hc : c < 64) (hR : Rst c hx hm) (hsc : ∀ h1 h2 : jH, h1 1 = some cMost → ∀ q, q < 6 → jaI (mg sc h1 h2) sn .int (i + Int32.ofNat q) = some (g q)) (hk : k ≤ 500000) (hn : n ≤ 7000000) (next : ∀ h1 h2 hy : jH, jsub hy h1 → Rst (c + 1) hy h2 → J X cL_law 4 yL (k + 100) (n + 5000) 1266 [some (.ref sn), some (.ref 26), some (.ref 27), some (.int i)] [] (mg sc h1 h2)) : J X cL_law 4 yL k n 1004 [some (.ref sn), some (.ref 26), some (.ref 27), some (.int i)] [] (mg sc hx hm) := by
  obtain ⟨r, hx', hm', hy, f1, f2, hs, hR'⟩ := (law_sheet (g 1) (g 2) (g 3)) c hx hm hc hR
  have m1 : hx' 1 = some cMost := (hs 1 _ (Rst_1 hR')).1
  refine J.aload_n (i := 1) dL_law_1004 rfl rfl ?_
  refine J.aload_n (i := 0) dL_law_1005 rfl rfl ?_
  refine J.iload_n (i := 3) dL_law_1006 rfl rfl ?_
  refine J.iconst (v := 1) dL_law_1007 (by decide) ?_
  refine J.iadd dL_law_1008 ?_
  refine J.iald (hsc hx hm (Rst_1 hR) 1 (by decide)) dL_law_1009 ?_
  refine J.aload_n (i := 0) dL_law_1010 rfl rfl ?_
  refine J.iload_n (i := 3) dL_law_1011 rfl rfl ?_
  refine J.iconst (v := 2) dL_law_1012 (by decide) ?_
  refine J.iadd dL_law_1013 ?_
  refine J.iald (hsc hx hm (Rst_1 hR) 2 (by decide)) dL_law_1014 ?_
  refine J.aload_n (i := 0) dL_law_1015 rfl rfl ?_
  refine J.iload_n (i := 3) dL_law_1016 rfl rfl ?_
  refine J.iconst (v := 3) dL_law_1017 (by decide) ?_
  refine J.iadd dL_law_1018 ?_
  refine J.iald (hsc hx hm (Rst_1 hR) 3 (by decide)) dL_law_1019 ?_
  refine J.callVW (As := [.int (g 1), .int (g 2), .int (g 3)]) (k2 := k + 50) (n2 := n + 2500) 0 hDl hRm (bigX (as := [g 1, g 2, g 3]) (Rst_d1 hR) (w_X0_sheet hl f1) rfl) (lw_VW q752 q753 q754 q39 q755) hd_X0_sheet rfl (is26 (Rst_8 hR).choose_spec) rfl (Nat.le_of_ble_eq_true rfl) (Nat.le_of_ble_eq_true rfl) (Nat.add_le_add_left (Nat.le_of_ble_eq_true rfl) _) (Nat.add_le_add_left (Nat.le_of_ble_eq_true rfl) _) (by omega) (by omega) (Nat.le_of_ble_eq_true rfl) rfl dL_law_1020 ?_
  refine J.aload_n (i := 2) dL_law_1023 rfl rfl ?_
  refine J.aload_n (i := 0) dL_law_1024 rfl rfl ?_
  refine J.iload_n (i := 3) dL_law_1025 rfl rfl ?_
  refine J.iconst (v := 1) dL_law_1026 (by decide) ?_
  refine J.iadd dL_law_1027 ?_
  refine J.iald (hsc hx' hm m1 1 (by decide)) dL_law_1028 ?_
  refine J.aload_n (i := 0) dL_law_1029 rfl rfl ?_
  refine J.iload_n (i := 3) dL_law_1030 rfl rfl ?_
  refine J.iconst (v := 2) dL_law_1031 (by decide) ?_
  refine J.iadd dL_law_1032 ?_
  refine J.iald (hsc hx' hm m1 2 (by decide)) dL_law_1033 ?_
  refine J.aload_n (i := 0) dL_law_1034 rfl rfl ?_
  refine J.iload_n (i := 3) dL_law_1035 rfl rfl ?_
  refine J.iconst (v := 3) dL_law_1036 (by decide) ?_
  refine J.iadd dL_law_1037 ?_
  refine J.iald (hsc hx' hm m1 3 (by decide)) dL_law_1038 ?_
  refine J.callV (As := [.int (g 1), .int (g 2), .int (g 3)]) (k2 := k + 100) (n2 := n + 5000) 9 hDl hRm (bigM (as := [g 1, g 2, g 3]) (Rst_d2 hR) (w_X5_sheet f2) rfl) (lw_V q1218 q1219 q1220 q44 q1221) hd_X5_sheet rfl (is27 (Rst_8m hR).choose_spec) rfl (Nat.le_of_ble_eq_true rfl) (Nat.le_of_ble_eq_true rfl) (Nat.add_le_add_left (m := 50) (Nat.le_of_ble_eq_true rfl) _) (Nat.add_le_add_left (m := 2500) (Nat.le_of_ble_eq_true rfl) _) (by omega) (by omega) (Nat.le_of_ble_eq_true rfl) rfl dL_law_1039 ?_
  exact J.icmp_eq (tgt := 1266) dL_law_1042 (by decide) (fun _ => next hx' hm' hy hs hR') (fun z => absurd rfl z)
set_option maxHeartbeats 4000000 in
theorem lc_lose {X : jX} {D : va_G} {l : Launch} {c k n sn : Nat} {i : Int32} {sc : Option jO} {hx hm : jH} {g : Nat → Int32} (hDl : jDl X D l) (hRm : jRoom X 2048 94400 603072 7262314) (hl : jNT l) (hc : c < 64) (hR : Rst c hx hm) (hsc : ∀ h1 h2 : jH, h1 1 = some cMost → ∀ q, q < 6 → jaI (mg sc h1 h2) sn .int (i + Int32.ofNat q) = some (g q)) (hk : k ≤ 500000) (hn : n ≤ 7000000) (next : ∀ h1 h2 hy : jH, jsub hy h1 → Rst (c + 1) hy h2 → J X cL_law 4 yL (k + 100) (n + 5000) 1266 [some (.ref sn), some (.ref 26), some (.ref 27), some (.int i)] [] (mg sc h1 h2)) : J X cL_law 4 yL k n 1047 [some (.ref sn), some (.ref 26), some (.ref 27), some (.int i)] [] (mg sc hx hm) := by
  obtain ⟨r, hx', hm', hy, f1, f2, hs, hR'⟩ := (law_lose (g 1)) c hx hm hc hR
  have m1 : hx' 1 = some cMost := (hs 1 _ (Rst_1 hR')).1
  refine J.aload_n (i := 1) dL_law_1047 rfl rfl ?_
  refine J.aload_n (i := 0) dL_law_1048 rfl rfl ?_
  refine J.iload_n (i := 3) dL_law_1049 rfl rfl ?_
  refine J.iconst (v := 1) dL_law_1050 (by decide) ?_
  refine J.iadd dL_law_1051 ?_
  refine J.iald (hsc hx hm (Rst_1 hR) 1 (by decide)) dL_law_1052 ?_
  refine J.callV (As := [.int (g 1)]) (k2 := k + 50) (n2 := n + 2500) 0 hDl hRm (bigX (as := [g 1]) (Rst_d1 hR) (w_X0_lose f1) rfl) (lw_V q781 q782 q783 q39 q784) hd_X0_lose rfl (is26 (Rst_8 hR).choose_spec) rfl (Nat.le_of_ble_eq_true rfl) (Nat.le_of_ble_eq_true rfl) (Nat.add_le_add_left (Nat.le_of_ble_eq_true rfl) _) (Nat.add_le_add_left (Nat.le_of_ble_eq_true rfl) _) (by omega) (by omega) (Nat.le_of_ble_eq_true rfl) rfl dL_law_1053 ?_
  refine J.aload_n (i := 2) dL_law_1056 rfl rfl ?_
  refine J.aload_n (i := 0) dL_law_1057 rfl rfl ?_
  refine J.iload_n (i := 3) dL_law_1058 rfl rfl ?_
  refine J.iconst (v := 1) dL_law_1059 (by decide) ?_
  refine J.iadd dL_law_1060 ?_
  refine J.iald (hsc hx' hm m1 1 (by decide)) dL_law_1061 ?_
  refine J.callV (As := [.int (g 1)]) (k2 := k + 100) (n2 := n + 5000) 9 hDl hRm (bigM (as := [g 1]) (Rst_d2 hR) (w_X5_lose f2) rfl) (lw_V q1229 q1230 q1231 q44 q1232) hd_X5_lose rfl (is27 (Rst_8m hR).choose_spec) rfl (Nat.le_of_ble_eq_true rfl) (Nat.le_of_ble_eq_true rfl) (Nat.add_le_add_left (m := 50) (Nat.le_of_ble_eq_true rfl) _) (Nat.add_le_add_left (m := 2500) (Nat.le_of_ble_eq_true rfl) _) (by omega) (by omega) (Nat.le_of_ble_eq_true rfl) rfl dL_law_1062 ?_
  exact J.icmp_eq (tgt := 1266) dL_law_1065 (by decide) (fun _ => next hx' hm' hy hs hR') (fun z => absurd rfl z)
set_option maxHeartbeats 4000000 in
theorem lc_put {X : jX} {D : va_G} {l : Launch} {c k n sn : Nat} {i : Int32} {sc : Option jO} {hx hm : jH} {g : Nat → Int32} (hDl : jDl X D l) (hRm : jRoom X 2048 94400 603072 7262314) (hl : jNT l) (hc : c < 64) (hR : Rst c hx hm) (hsc : ∀ h1 h2 : jH, h1 1 = some cMost → ∀ q, q < 6 → jaI (mg sc h1 h2) sn .int (i + Int32.ofNat q) = some (g q)) (hk : k ≤ 500000) (hn : n ≤ 7000000) (next : ∀ h1 h2 hy : jH, jsub hy h1 → Rst (c + 1) hy h2 → J X cL_law 4 yL (k + 100) (n + 5000) 1266 [some (.ref sn), some (.ref 26), some (.ref 27), some (.int i)] [] (mg sc h1 h2)) : J X cL_law 4 yL k n 1070 [some (.ref sn), some (.ref 26), some (.ref 27), some (.int i)] [] (mg sc hx hm) := by
  obtain ⟨r, hx', hm', hy, f1, f2, hs, hR'⟩ := (law_put (g 1) (g 2) (g 3) (g 4)).S c hx hm hc hR
  have m1 : hx' 1 = some cMost := (hs 1 _ (Rst_1 hR')).1
  refine J.aload_n (i := 1) dL_law_1070 rfl rfl ?_
  refine J.aload_n (i := 0) dL_law_1071 rfl rfl ?_
  refine J.iload_n (i := 3) dL_law_1072 rfl rfl ?_
  refine J.iconst (v := 1) dL_law_1073 (by decide) ?_
  refine J.iadd dL_law_1074 ?_
  refine J.iald (hsc hx hm (Rst_1 hR) 1 (by decide)) dL_law_1075 ?_
  refine J.aload_n (i := 0) dL_law_1076 rfl rfl ?_
  refine J.iload_n (i := 3) dL_law_1077 rfl rfl ?_
  refine J.iconst (v := 2) dL_law_1078 (by decide) ?_
  refine J.iadd dL_law_1079 ?_
  refine J.iald (hsc hx hm (Rst_1 hR) 2 (by decide)) dL_law_1080 ?_
  refine J.aload_n (i := 0) dL_law_1081 rfl rfl ?_
  refine J.iload_n (i := 3) dL_law_1082 rfl rfl ?_
  refine J.iconst (v := 3) dL_law_1083 (by decide) ?_
  refine J.iadd dL_law_1084 ?_
  refine J.iald (hsc hx hm (Rst_1 hR) 3 (by decide)) dL_law_1085 ?_
  refine J.aload_n (i := 0) dL_law_1086 rfl rfl ?_
  refine J.iload_n (i := 3) dL_law_1087 rfl rfl ?_
  refine J.iconst (v := 4) dL_law_1088 (by decide) ?_
  refine J.iadd dL_law_1089 ?_
  refine J.iald (hsc hx hm (Rst_1 hR) 4 (by decide)) dL_law_1090 ?_
  refine J.callVW (As := [.int (g 1), .int (g 2), .int (g 3), .int (g 4)]) (k2 := k + 50) (n2 := n + 2500) 0 hDl hRm (bigX (as := [g 1, g 2, g 3, g 4]) (Rst_d1 hR) (w_X0_put hl f1) rfl) (lw_VW q785 q786 q787 q39 q788) hd_X0_put rfl (is26 (Rst_8 hR).choose_spec) rfl (Nat.le_of_ble_eq_true rfl) (Nat.le_of_ble_eq_true rfl) (Nat.add_le_add_left (Nat.le_of_ble_eq_true rfl) _) (Nat.add_le_add_left (Nat.le_of_ble_eq_true rfl) _) (by omega) (by omega) (Nat.le_of_ble_eq_true rfl) rfl dL_law_1091 ?_
  refine J.aload_n (i := 2) dL_law_1094 rfl rfl ?_
  refine J.aload_n (i := 0) dL_law_1095 rfl rfl ?_
  refine J.iload_n (i := 3) dL_law_1096 rfl rfl ?_
  refine J.iconst (v := 1) dL_law_1097 (by decide) ?_
  refine J.iadd dL_law_1098 ?_
  refine J.iald (hsc hx' hm m1 1 (by decide)) dL_law_1099 ?_
  refine J.aload_n (i := 0) dL_law_1100 rfl rfl ?_
  refine J.iload_n (i := 3) dL_law_1101 rfl rfl ?_
  refine J.iconst (v := 2) dL_law_1102 (by decide) ?_
  refine J.iadd dL_law_1103 ?_
  refine J.iald (hsc hx' hm m1 2 (by decide)) dL_law_1104 ?_
  refine J.aload_n (i := 0) dL_law_1105 rfl rfl ?_
  refine J.iload_n (i := 3) dL_law_1106 rfl rfl ?_
  refine J.iconst (v := 3) dL_law_1107 (by decide) ?_
  refine J.iadd dL_law_1108 ?_
  refine J.iald (hsc hx' hm m1 3 (by decide)) dL_law_1109 ?_
  refine J.aload_n (i := 0) dL_law_1110 rfl rfl ?_
  refine J.iload_n (i := 3) dL_law_1111 rfl rfl ?_
  refine J.iconst (v := 4) dL_law_1112 (by decide) ?_
  refine J.iadd dL_law_1113 ?_
  refine J.iald (hsc hx' hm m1 4 (by decide)) dL_law_1114 ?_
  refine J.callV (As := [.int (g 1), .int (g 2), .int (g 3), .int (g 4)]) (k2 := k + 100) (n2 := n + 5000) 9 hDl hRm (bigM (as := [g 1, g 2, g 3, g 4]) (Rst_d2 hR) (w_X5_put f2) rfl) (lw_V q1233 q1234 q1235 q44 q1236) hd_X5_put rfl (is27 (Rst_8m hR).choose_spec) rfl (Nat.le_of_ble_eq_true rfl) (Nat.le_of_ble_eq_true rfl) (Nat.add_le_add_left (m := 50) (Nat.le_of_ble_eq_true rfl) _) (Nat.add_le_add_left (m := 2500) (Nat.le_of_ble_eq_true rfl) _) (by omega) (by omega) (Nat.le_of_ble_eq_true rfl) rfl dL_law_1115 ?_
  exact J.icmp_eq (tgt := 1266) dL_law_1118 (by decide) (fun _ => next hx' hm' hy hs hR') (fun z => absurd rfl z)
set_option maxHeartbeats 4000000 in
theorem lc_get {X : jX} {D : va_G} {l : Launch} {c k n sn : Nat} {i : Int32} {sc : Option jO} {hx hm : jH} {g : Nat → Int32} (hDl : jDl X D l) (hRm : jRoom X 2048 94400 603072 7262314) (hl : jNT l) (hc : c < 64) (hR : Rst c hx hm) (hsc : ∀ h1 h2 : jH, h1 1 = some cMost → ∀ q, q < 6 → jaI (mg sc h1 h2) sn .int (i + Int32.ofNat q) = some (g q)) (hk : k ≤ 500000) (hn : n ≤ 7000000) (next : ∀ h1 h2 hy : jH, jsub hy h1 → Rst (c + 1) hy h2 → J X cL_law 4 yL (k + 100) (n + 5000) 1266 [some (.ref sn), some (.ref 26), some (.ref 27), some (.int i)] [] (mg sc h1 h2)) : J X cL_law 4 yL k n 1123 [some (.ref sn), some (.ref 26), some (.ref 27), some (.int i)] [] (mg sc hx hm) := by
  obtain ⟨r, hx', hm', hy, f1, f2, hs, hR'⟩ := (law_get (g 1) (g 2) (g 3)).S c hx hm hc hR
  have m1 : hx' 1 = some cMost := (hs 1 _ (Rst_1 hR')).1
  refine J.aload_n (i := 1) dL_law_1123 rfl rfl ?_
  refine J.aload_n (i := 0) dL_law_1124 rfl rfl ?_
  refine J.iload_n (i := 3) dL_law_1125 rfl rfl ?_
  refine J.iconst (v := 1) dL_law_1126 (by decide) ?_
  refine J.iadd dL_law_1127 ?_
  refine J.iald (hsc hx hm (Rst_1 hR) 1 (by decide)) dL_law_1128 ?_
  refine J.aload_n (i := 0) dL_law_1129 rfl rfl ?_
  refine J.iload_n (i := 3) dL_law_1130 rfl rfl ?_
  refine J.iconst (v := 2) dL_law_1131 (by decide) ?_
  refine J.iadd dL_law_1132 ?_
  refine J.iald (hsc hx hm (Rst_1 hR) 2 (by decide)) dL_law_1133 ?_
  refine J.aload_n (i := 0) dL_law_1134 rfl rfl ?_
  refine J.iload_n (i := 3) dL_law_1135 rfl rfl ?_
  refine J.iconst (v := 3) dL_law_1136 (by decide) ?_
  refine J.iadd dL_law_1137 ?_
  refine J.iald (hsc hx hm (Rst_1 hR) 3 (by decide)) dL_law_1138 ?_
  refine J.callVW (As := [.int (g 1), .int (g 2), .int (g 3)]) (k2 := k + 50) (n2 := n + 2500) 0 hDl hRm (bigX (as := [g 1, g 2, g 3]) (Rst_d1 hR) (w_X0_get hl f1) rfl) (lw_VW q831 q832 q833 q39 q834) hd_X0_get rfl (is26 (Rst_8 hR).choose_spec) rfl (Nat.le_of_ble_eq_true rfl) (Nat.le_of_ble_eq_true rfl) (Nat.add_le_add_left (Nat.le_of_ble_eq_true rfl) _) (Nat.add_le_add_left (Nat.le_of_ble_eq_true rfl) _) (by omega) (by omega) (Nat.le_of_ble_eq_true rfl) rfl dL_law_1139 ?_
  refine J.aload_n (i := 2) dL_law_1142 rfl rfl ?_
  refine J.aload_n (i := 0) dL_law_1143 rfl rfl ?_
  refine J.iload_n (i := 3) dL_law_1144 rfl rfl ?_
  refine J.iconst (v := 1) dL_law_1145 (by decide) ?_
  refine J.iadd dL_law_1146 ?_
  refine J.iald (hsc hx' hm m1 1 (by decide)) dL_law_1147 ?_
  refine J.aload_n (i := 0) dL_law_1148 rfl rfl ?_
  refine J.iload_n (i := 3) dL_law_1149 rfl rfl ?_
  refine J.iconst (v := 2) dL_law_1150 (by decide) ?_
  refine J.iadd dL_law_1151 ?_
  refine J.iald (hsc hx' hm m1 2 (by decide)) dL_law_1152 ?_
  refine J.aload_n (i := 0) dL_law_1153 rfl rfl ?_
  refine J.iload_n (i := 3) dL_law_1154 rfl rfl ?_
  refine J.iconst (v := 3) dL_law_1155 (by decide) ?_
  refine J.iadd dL_law_1156 ?_
  refine J.iald (hsc hx' hm m1 3 (by decide)) dL_law_1157 ?_
  refine J.callV (As := [.int (g 1), .int (g 2), .int (g 3)]) (k2 := k + 100) (n2 := n + 5000) 9 hDl hRm (bigM (as := [g 1, g 2, g 3]) (Rst_d2 hR) (w_X5_get f2) rfl) (lw_V q1241 q1242 q1243 q44 q1244) hd_X5_get rfl (is27 (Rst_8m hR).choose_spec) rfl (Nat.le_of_ble_eq_true rfl) (Nat.le_of_ble_eq_true rfl) (Nat.add_le_add_left (m := 50) (Nat.le_of_ble_eq_true rfl) _) (Nat.add_le_add_left (m := 2500) (Nat.le_of_ble_eq_true rfl) _) (by omega) (by omega) (Nat.le_of_ble_eq_true rfl) rfl dL_law_1158 ?_
  exact J.icmp_eq (tgt := 1266) dL_law_1161 (by decide) (fun _ => next hx' hm' hy hs hR') (fun z => absurd rfl z)
set_option maxHeartbeats 4000000 in
theorem lc_copy {X : jX} {D : va_G} {l : Launch} {c k n sn : Nat} {i : Int32} {sc : Option jO} {hx hm : jH} {g : Nat → Int32} (hDl : jDl X D l) (hRm : jRoom X 2048 94400 603072 7262314) (hl : jNT l) (hc : c < 64) (hR : Rst c hx hm) (hsc : ∀ h1 h2 : jH, h1 1 = some cMost → ∀ q, q < 6 → jaI (mg sc h1 h2) sn .int (i + Int32.ofNat q) = some (g q)) (hk : k ≤ 500000) (hn : n ≤ 7000000) (next : ∀ h1 h2 hy : jH, jsub hy h1 → Rst (c + 1) hy h2 → J X cL_law 4 yL (k + 100) (n + 5000) 1266 [some (.ref sn), some (.ref 26), some (.ref 27), some (.int i)] [] (mg sc h1 h2)) : J X cL_law 4 yL k n 1166 [some (.ref sn), some (.ref 26), some (.ref 27), some (.int i)] [] (mg sc hx hm) := by
  obtain ⟨r, hx', hm', hy, f1, f2, hs, hR'⟩ := (law_copy (g 1) (g 2) (g 3) (g 4) (g 5)).S c hx hm hc hR
  have m1 : hx' 1 = some cMost := (hs 1 _ (Rst_1 hR')).1
  refine J.aload_n (i := 1) dL_law_1166 rfl rfl ?_
  refine J.aload_n (i := 0) dL_law_1167 rfl rfl ?_
  refine J.iload_n (i := 3) dL_law_1168 rfl rfl ?_
  refine J.iconst (v := 1) dL_law_1169 (by decide) ?_
  refine J.iadd dL_law_1170 ?_
  refine J.iald (hsc hx hm (Rst_1 hR) 1 (by decide)) dL_law_1171 ?_
  refine J.aload_n (i := 0) dL_law_1172 rfl rfl ?_
  refine J.iload_n (i := 3) dL_law_1173 rfl rfl ?_
  refine J.iconst (v := 2) dL_law_1174 (by decide) ?_
  refine J.iadd dL_law_1175 ?_
  refine J.iald (hsc hx hm (Rst_1 hR) 2 (by decide)) dL_law_1176 ?_
  refine J.aload_n (i := 0) dL_law_1177 rfl rfl ?_
  refine J.iload_n (i := 3) dL_law_1178 rfl rfl ?_
  refine J.iconst (v := 3) dL_law_1179 (by decide) ?_
  refine J.iadd dL_law_1180 ?_
  refine J.iald (hsc hx hm (Rst_1 hR) 3 (by decide)) dL_law_1181 ?_
  refine J.aload_n (i := 0) dL_law_1182 rfl rfl ?_
  refine J.iload_n (i := 3) dL_law_1183 rfl rfl ?_
  refine J.iconst (v := 4) dL_law_1184 (by decide) ?_
  refine J.iadd dL_law_1185 ?_
  refine J.iald (hsc hx hm (Rst_1 hR) 4 (by decide)) dL_law_1186 ?_
  refine J.aload_n (i := 0) dL_law_1187 rfl rfl ?_
  refine J.iload_n (i := 3) dL_law_1188 rfl rfl ?_
  refine J.iconst (v := 5) dL_law_1189 (by decide) ?_
  refine J.iadd dL_law_1190 ?_
  refine J.iald (hsc hx hm (Rst_1 hR) 5 (by decide)) dL_law_1191 ?_
  refine J.callVW (As := [.int (g 1), .int (g 2), .int (g 3), .int (g 4), .int (g 5)]) (k2 := k + 50) (n2 := n + 2500) 0 hDl hRm (bigX (as := [g 1, g 2, g 3, g 4, g 5]) (Rst_d1 hR) (w_X0_copy hl f1) rfl) (lw_VW q836 q837 q838 q39 q839) hd_X0_copy rfl (is26 (Rst_8 hR).choose_spec) rfl (Nat.le_of_ble_eq_true rfl) (Nat.le_of_ble_eq_true rfl) (Nat.add_le_add_left (Nat.le_of_ble_eq_true rfl) _) (Nat.add_le_add_left (Nat.le_of_ble_eq_true rfl) _) (by omega) (by omega) (Nat.le_of_ble_eq_true rfl) rfl dL_law_1192 ?_
  refine J.aload_n (i := 2) dL_law_1195 rfl rfl ?_
  refine J.aload_n (i := 0) dL_law_1196 rfl rfl ?_
  refine J.iload_n (i := 3) dL_law_1197 rfl rfl ?_
  refine J.iconst (v := 1) dL_law_1198 (by decide) ?_
  refine J.iadd dL_law_1199 ?_
  refine J.iald (hsc hx' hm m1 1 (by decide)) dL_law_1200 ?_
  refine J.aload_n (i := 0) dL_law_1201 rfl rfl ?_
  refine J.iload_n (i := 3) dL_law_1202 rfl rfl ?_
  refine J.iconst (v := 2) dL_law_1203 (by decide) ?_
  refine J.iadd dL_law_1204 ?_
  refine J.iald (hsc hx' hm m1 2 (by decide)) dL_law_1205 ?_
  refine J.aload_n (i := 0) dL_law_1206 rfl rfl ?_
  refine J.iload_n (i := 3) dL_law_1207 rfl rfl ?_
  refine J.iconst (v := 3) dL_law_1208 (by decide) ?_
  refine J.iadd dL_law_1209 ?_
  refine J.iald (hsc hx' hm m1 3 (by decide)) dL_law_1210 ?_
  refine J.aload_n (i := 0) dL_law_1211 rfl rfl ?_
  refine J.iload_n (i := 3) dL_law_1212 rfl rfl ?_
  refine J.iconst (v := 4) dL_law_1213 (by decide) ?_
  refine J.iadd dL_law_1214 ?_
  refine J.iald (hsc hx' hm m1 4 (by decide)) dL_law_1215 ?_
  refine J.aload_n (i := 0) dL_law_1216 rfl rfl ?_
  refine J.iload_n (i := 3) dL_law_1217 rfl rfl ?_
  refine J.iconst (v := 5) dL_law_1218 (by decide) ?_
  refine J.iadd dL_law_1219 ?_
  refine J.iald (hsc hx' hm m1 5 (by decide)) dL_law_1220 ?_
  refine J.callV (As := [.int (g 1), .int (g 2), .int (g 3), .int (g 4), .int (g 5)]) (k2 := k + 100) (n2 := n + 5000) 9 hDl hRm (bigM (as := [g 1, g 2, g 3, g 4, g 5]) (Rst_d2 hR) (w_X5_copy f2) rfl) (lw_V q1246 q1247 q1248 q44 q1249) hd_X5_copy rfl (is27 (Rst_8m hR).choose_spec) rfl (Nat.le_of_ble_eq_true rfl) (Nat.le_of_ble_eq_true rfl) (Nat.add_le_add_left (m := 50) (Nat.le_of_ble_eq_true rfl) _) (Nat.add_le_add_left (m := 2500) (Nat.le_of_ble_eq_true rfl) _) (by omega) (by omega) (Nat.le_of_ble_eq_true rfl) rfl dL_law_1221 ?_
  exact J.icmp_eq (tgt := 1266) dL_law_1224 (by decide) (fun _ => next hx' hm' hy hs hR') (fun z => absurd rfl z)
set_option maxHeartbeats 4000000 in
theorem lc_count {X : jX} {D : va_G} {l : Launch} {c k n sn : Nat} {i : Int32} {sc : Option jO} {hx hm : jH} {g : Nat → Int32} (hDl : jDl X D l) (hRm : jRoom X 2048 94400 603072 7262314) (hl : jNT l) (hc : c < 64) (hR : Rst c hx hm) (hsc : ∀ h1 h2 : jH, h1 1 = some cMost → ∀ q, q < 6 → jaI (mg sc h1 h2) sn .int (i + Int32.ofNat q) = some (g q)) (hk : k ≤ 500000) (hn : n ≤ 7000000) (next : ∀ h1 h2 hy : jH, jsub hy h1 → Rst (c + 1) hy h2 → J X cL_law 4 yL (k + 100) (n + 5000) 1266 [some (.ref sn), some (.ref 26), some (.ref 27), some (.int i)] [] (mg sc h1 h2)) : J X cL_law 4 yL k n 1229 [some (.ref sn), some (.ref 26), some (.ref 27), some (.int i)] [] (mg sc hx hm) := by
  obtain ⟨r, hx', hm', hy, f1, f2, hs, hR'⟩ := (law_count (g 1)).S c hx hm hc hR
  have m1 : hx' 1 = some cMost := (hs 1 _ (Rst_1 hR')).1
  refine J.aload_n (i := 1) dL_law_1229 rfl rfl ?_
  refine J.aload_n (i := 0) dL_law_1230 rfl rfl ?_
  refine J.iload_n (i := 3) dL_law_1231 rfl rfl ?_
  refine J.iconst (v := 1) dL_law_1232 (by decide) ?_
  refine J.iadd dL_law_1233 ?_
  refine J.iald (hsc hx hm (Rst_1 hR) 1 (by decide)) dL_law_1234 ?_
  refine J.callV (As := [.int (g 1)]) (k2 := k + 50) (n2 := n + 2500) 0 hDl hRm (bigX (as := [g 1]) (Rst_d1 hR) (w_X0_count f1) rfl) (lw_V q842 q843 q844 q39 q845) hd_X0_count rfl (is26 (Rst_8 hR).choose_spec) rfl (Nat.le_of_ble_eq_true rfl) (Nat.le_of_ble_eq_true rfl) (Nat.add_le_add_left (Nat.le_of_ble_eq_true rfl) _) (Nat.add_le_add_left (Nat.le_of_ble_eq_true rfl) _) (by omega) (by omega) (Nat.le_of_ble_eq_true rfl) rfl dL_law_1235 ?_
  refine J.aload_n (i := 2) dL_law_1238 rfl rfl ?_
  refine J.aload_n (i := 0) dL_law_1239 rfl rfl ?_
  refine J.iload_n (i := 3) dL_law_1240 rfl rfl ?_
  refine J.iconst (v := 1) dL_law_1241 (by decide) ?_
  refine J.iadd dL_law_1242 ?_
  refine J.iald (hsc hx' hm m1 1 (by decide)) dL_law_1243 ?_
  refine J.callV (As := [.int (g 1)]) (k2 := k + 100) (n2 := n + 5000) 9 hDl hRm (bigM (as := [g 1]) (Rst_d2 hR) (w_X5_count f2) rfl) (lw_V q1250 q1251 q1252 q44 q1253) hd_X5_count rfl (is27 (Rst_8m hR).choose_spec) rfl (Nat.le_of_ble_eq_true rfl) (Nat.le_of_ble_eq_true rfl) (Nat.add_le_add_left (m := 50) (Nat.le_of_ble_eq_true rfl) _) (Nat.add_le_add_left (m := 2500) (Nat.le_of_ble_eq_true rfl) _) (by omega) (by omega) (Nat.le_of_ble_eq_true rfl) rfl dL_law_1244 ?_
  exact J.icmp_eq (tgt := 1266) dL_law_1247 (by decide) (fun _ => next hx' hm' hy hs hR') (fun z => absurd rfl z)
set_option maxHeartbeats 4000000 in
theorem lc_digest {X : jX} {D : va_G} {l : Launch} {c k n sn : Nat} {i : Int32} {sc : Option jO} {hx hm : jH} {g : Nat → Int32} (hDl : jDl X D l) (hRm : jRoom X 2048 94400 603072 7262314) (hl : jNT l) (hc : c < 64) (hR : Rst c hx hm) (hsc : ∀ h1 h2 : jH, h1 1 = some cMost → ∀ q, q < 6 → jaI (mg sc h1 h2) sn .int (i + Int32.ofNat q) = some (g q)) (hk : k ≤ 500000) (hn : n ≤ 7000000) (next : ∀ h1 h2 hy : jH, jsub hy h1 → Rst (c + 1) hy h2 → J X cL_law 4 yL (k + 100) (n + 5000) 1266 [some (.ref sn), some (.ref 26), some (.ref 27), some (.int i)] [] (mg sc h1 h2)) : J X cL_law 4 yL k n 1252 [some (.ref sn), some (.ref 26), some (.ref 27), some (.int i)] [] (mg sc hx hm) := by
  obtain ⟨r, hx', hm', hy, f1, f2, hs, hR'⟩ := (law_digest).S c hx hm hc hR
  have m1 : hx' 1 = some cMost := (hs 1 _ (Rst_1 hR')).1
  refine J.aload_n (i := 1) dL_law_1252 rfl rfl ?_
  refine J.callV (As := []) (k2 := k + 50) (n2 := n + 2500) 0 hDl hRm (bigX (as := []) (Rst_d1 hR) (w_X0_digest hl f1) rfl) (lw_V q850 q851 q852 q39 q853) hd_X0_digest rfl (is26 (Rst_8 hR).choose_spec) rfl (Nat.le_of_ble_eq_true rfl) (Nat.le_of_ble_eq_true rfl) (Nat.add_le_add_left (Nat.le_of_ble_eq_true rfl) _) (Nat.add_le_add_left (Nat.le_of_ble_eq_true rfl) _) (by omega) (by omega) (Nat.le_of_ble_eq_true rfl) rfl dL_law_1253 ?_
  refine J.aload_n (i := 2) dL_law_1256 rfl rfl ?_
  refine J.callV (As := []) (k2 := k + 100) (n2 := n + 5000) 9 hDl hRm (bigM (as := []) (Rst_d2 hR) (w_X5_digest f2) rfl) (lw_V q1258 q1259 q1260 q44 q1261) hd_X5_digest rfl (is27 (Rst_8m hR).choose_spec) rfl (Nat.le_of_ble_eq_true rfl) (Nat.le_of_ble_eq_true rfl) (Nat.add_le_add_left (m := 50) (Nat.le_of_ble_eq_true rfl) _) (Nat.add_le_add_left (m := 2500) (Nat.le_of_ble_eq_true rfl) _) (by omega) (by omega) (Nat.le_of_ble_eq_true rfl) rfl dL_law_1257 ?_
  refine J.lcmp dL_law_1260 ?_
  exact J.if_eq (tgt := 1266) dL_law_1261 (by decide) (fun _ => next hx' hm' hy hs hR') (fun z => absurd ((lgc0 _ _).mpr rfl) z)
