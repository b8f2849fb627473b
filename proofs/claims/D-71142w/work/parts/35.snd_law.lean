set_option maxRecDepth 100000
set_option maxHeartbeats 4000000
abbrev nL_law : MI := (cL_law, 4, (some (.boolean)), "FishReadersLaw", "law", [], 21, 12032)
theorem eL_law_0 : SiZ nL_law 0 (i_new 1 15 3) := s_new dL_law_0 q110 q111 q77 clX0 rfl (by decide)
theorem eL_law_3 : SiZ nL_law 3 (i_dup 4) := s_dup dL_law_3
theorem eL_law_4 : ScZ nL_law 4 (c_I 0 7 1 (Mt mX0_init 1)) := e_I (mi := nL_law) (mi' := nX0_init) (len := 3) (fun h b as rest hl => cs_I (mi := nL_law) (pc := 4) (y := yX0_init) (idx := 9) dL_law_4 rfl q112 q113 q114 hyX0_init pnX0_init hl) wdX0_init zX0_init (Nat.le_of_ble_eq_true rfl) (Nat.le_of_ble_eq_true rfl)
theorem eL_law_7 : SiZ nL_law 7 (i_astore 1 8) := s_astore_n dL_law_7 rfl
theorem eL_law_8 : SiZ nL_law 8 (i_new 9 26 11) := s_new dL_law_8 q1241 q1242 q89 clX9 rfl (by decide)
theorem eL_law_11 : SiZ nL_law 11 (i_dup 12) := s_dup dL_law_11
theorem eL_law_12 : ScZ nL_law 12 (c_I 0 15 2 (Mt mX9_init 2)) := e_I (mi := nL_law) (mi' := nX9_init) (len := 3) (fun h b as rest hl => cs_I (mi := nL_law) (pc := 12) (y := yX9_init) (idx := 12) dL_law_12 rfl q1243 q1244 q1245 hyX9_init pnX9_init hl) wdX9_init zX9_init (Nat.le_of_ble_eq_true rfl) (Nat.le_of_ble_eq_true rfl)
theorem eL_law_15 : SiZ nL_law 15 (i_astore 2 16) := s_astore_n dL_law_15 rfl
theorem eL_law_16 : SiZ nL_law 16 (i_push (.int 0) 17) := s_iconst dL_law_16 (by decide)
theorem eL_law_17 : SiZ nL_law 17 (i_istore 3 18) := s_istore_n dL_law_17 rfl
theorem eL_law_18 : SiZ nL_law 18 (i_iload 3 19) := s_iload_n dL_law_18 rfl
theorem eL_law_19 : SiZ nL_law 19 (i_aload 0 20) := s_aload_n dL_law_19 rfl
theorem eL_law_20 : SiZ nL_law 20 (i_alen [58] 21) := s_alen dL_law_20 (fm_cons (Or.inr (Or.inr (Or.inl rfl))) (fm_nil))
theorem eL_law_21 : SiZ nL_law 21 (i_push (.int 7) 23) := s_bipush dL_law_21 (by decide)
theorem eL_law_23 : SiZ nL_law 23 (i_bin (fun x y => x - y) 24) := s_isub dL_law_23
theorem eL_law_24 : SiZ nL_law 24 (i_icmp (fun x y => y < x) 1520 27) := s_icmp_gt dL_law_24 (by decide)
theorem eL_law_27 : SiZ nL_law 27 (i_aload 0 28) := s_aload_n dL_law_27 rfl
theorem eL_law_28 : SiZ nL_law 28 (i_iload 3 29) := s_iload_n dL_law_28 rfl
theorem eL_law_29 : SiZ nL_law 29 (i_iald 58 30) := s_aldX dL_law_29
theorem eL_law_30 : SiZ nL_law 30 (i_push (.int 63) 32) := s_bipush dL_law_30 (by decide)
theorem eL_law_32 : SiZ nL_law 32 (i_bin (fun x y => x &&& y) 33) := s_iand dL_law_32
theorem eL_law_33 : SiZ nL_law 33 (i_tsw 0 [204, 247, 290, 353, 376, 399, 412, 425, 438, 461, 494, 527, 560, 593, 616, 649, 682, 705, 748, 791, 814, 837, 870, 913, 956, 999, 1032, 1107, 1170, 1223, 1277, 1320, 1343, 1366, 1389, 1422, 1455, 1478, 1501] 1514) := s_tsw dL_law_33 (by decide) (by decide) (by decide)
theorem eL_law_204 : SiZ nL_law 204 (i_aload 1 205) := s_aload_n dL_law_204 rfl
theorem eL_law_205 : SiZ nL_law 205 (i_aload 0 206) := s_aload_n dL_law_205 rfl
theorem eL_law_206 : SiZ nL_law 206 (i_iload 3 207) := s_iload_n dL_law_206 rfl
theorem eL_law_207 : SiZ nL_law 207 (i_push (.int 1) 208) := s_iconst dL_law_207 (by decide)
theorem eL_law_208 : SiZ nL_law 208 (i_bin (fun x y => x + y) 209) := s_iadd dL_law_208
theorem eL_law_209 : SiZ nL_law 209 (i_iald 58 210) := s_aldX dL_law_209
theorem eL_law_210 : SiZ nL_law 210 (i_aload 0 211) := s_aload_n dL_law_210 rfl
theorem eL_law_211 : SiZ nL_law 211 (i_iload 3 212) := s_iload_n dL_law_211 rfl
theorem eL_law_212 : SiZ nL_law 212 (i_push (.int 2) 213) := s_iconst dL_law_212 (by decide)
theorem eL_law_213 : SiZ nL_law 213 (i_bin (fun x y => x + y) 214) := s_iadd dL_law_213
theorem eL_law_214 : SiZ nL_law 214 (i_iald 58 215) := s_aldX dL_law_214
theorem eL_law_215 : SiZ nL_law 215 (i_aload 0 216) := s_aload_n dL_law_215 rfl
theorem eL_law_216 : SiZ nL_law 216 (i_iload 3 217) := s_iload_n dL_law_216 rfl
theorem eL_law_217 : SiZ nL_law 217 (i_push (.int 3) 218) := s_iconst dL_law_217 (by decide)
theorem eL_law_218 : SiZ nL_law 218 (i_bin (fun x y => x + y) 219) := s_iadd dL_law_218
theorem eL_law_219 : SiZ nL_law 219 (i_iald 58 220) := s_aldX dL_law_219
theorem eL_law_220 : ScZ nL_law 220 (c_V 3 223 5 1 (Mt mX0_row 5)) := e_V (mi := nL_law) (mi' := nX0_row) (len := 3) (fun h b as rest hk hl => cs_V (ci := 0) (mi := nL_law) (pc := 220) (y := yX0_row) (idx := 13) dL_law_220 q342 q343 q344 rfl hk hyX0_row (sigW q345) pnX0_row hl) wdX0_row zX0_row (Nat.le_of_ble_eq_true rfl) (Nat.le_of_ble_eq_true rfl)
theorem eL_law_223 : SiZ nL_law 223 (i_aload 2 224) := s_aload_n dL_law_223 rfl
theorem eL_law_224 : SiZ nL_law 224 (i_aload 0 225) := s_aload_n dL_law_224 rfl
theorem eL_law_225 : SiZ nL_law 225 (i_iload 3 226) := s_iload_n dL_law_225 rfl
theorem eL_law_226 : SiZ nL_law 226 (i_push (.int 1) 227) := s_iconst dL_law_226 (by decide)
theorem eL_law_227 : SiZ nL_law 227 (i_bin (fun x y => x + y) 228) := s_iadd dL_law_227
theorem eL_law_228 : SiZ nL_law 228 (i_iald 58 229) := s_aldX dL_law_228
theorem eL_law_229 : SiZ nL_law 229 (i_aload 0 230) := s_aload_n dL_law_229 rfl
theorem eL_law_230 : SiZ nL_law 230 (i_iload 3 231) := s_iload_n dL_law_230 rfl
theorem eL_law_231 : SiZ nL_law 231 (i_push (.int 2) 232) := s_iconst dL_law_231 (by decide)
theorem eL_law_232 : SiZ nL_law 232 (i_bin (fun x y => x + y) 233) := s_iadd dL_law_232
theorem eL_law_233 : SiZ nL_law 233 (i_iald 58 234) := s_aldX dL_law_233
theorem eL_law_234 : SiZ nL_law 234 (i_aload 0 235) := s_aload_n dL_law_234 rfl
theorem eL_law_235 : SiZ nL_law 235 (i_iload 3 236) := s_iload_n dL_law_235 rfl
theorem eL_law_236 : SiZ nL_law 236 (i_push (.int 3) 237) := s_iconst dL_law_236 (by decide)
theorem eL_law_237 : SiZ nL_law 237 (i_bin (fun x y => x + y) 238) := s_iadd dL_law_237
theorem eL_law_238 : SiZ nL_law 238 (i_iald 58 239) := s_aldX dL_law_238
theorem eL_law_239 : ScZ nL_law 239 (c_V 3 242 5 9 (Mt mX9_row 5)) := e_V (mi := nL_law) (mi' := nX9_row) (len := 3) (fun h b as rest hk hl => cs_V (ci := 8) (mi := nL_law) (pc := 239) (y := yX9_row) (idx := 17) dL_law_239 q1327 q1328 q1329 rfl hk hyX9_row (sigC q1330) pnX9_row hl) wdX9_row zX9_row (Nat.le_of_ble_eq_true rfl) (Nat.le_of_ble_eq_true rfl)
theorem eL_law_242 : SiZ nL_law 242 (i_icmp (fun x y => x = y) 1514 245) := s_icmp_eq dL_law_242 (by decide)
theorem eL_law_245 : SiZ nL_law 245 (i_push (.int 0) 246) := s_iconst dL_law_245 (by decide)
theorem eL_law_246 : SiZ nL_law 246 i_zret := s_zret dL_law_246 rfl
theorem eL_law_247 : SiZ nL_law 247 (i_aload 1 248) := s_aload_n dL_law_247 rfl
theorem eL_law_248 : SiZ nL_law 248 (i_aload 0 249) := s_aload_n dL_law_248 rfl
theorem eL_law_249 : SiZ nL_law 249 (i_iload 3 250) := s_iload_n dL_law_249 rfl
theorem eL_law_250 : SiZ nL_law 250 (i_push (.int 1) 251) := s_iconst dL_law_250 (by decide)
theorem eL_law_251 : SiZ nL_law 251 (i_bin (fun x y => x + y) 252) := s_iadd dL_law_251
theorem eL_law_252 : SiZ nL_law 252 (i_iald 58 253) := s_aldX dL_law_252
theorem eL_law_253 : SiZ nL_law 253 (i_aload 0 254) := s_aload_n dL_law_253 rfl
theorem eL_law_254 : SiZ nL_law 254 (i_iload 3 255) := s_iload_n dL_law_254 rfl
theorem eL_law_255 : SiZ nL_law 255 (i_push (.int 2) 256) := s_iconst dL_law_255 (by decide)
theorem eL_law_256 : SiZ nL_law 256 (i_bin (fun x y => x + y) 257) := s_iadd dL_law_256
theorem eL_law_257 : SiZ nL_law 257 (i_iald 58 258) := s_aldX dL_law_257
theorem eL_law_258 : SiZ nL_law 258 (i_aload 0 259) := s_aload_n dL_law_258 rfl
theorem eL_law_259 : SiZ nL_law 259 (i_iload 3 260) := s_iload_n dL_law_259 rfl
theorem eL_law_260 : SiZ nL_law 260 (i_push (.int 3) 261) := s_iconst dL_law_260 (by decide)
theorem eL_law_261 : SiZ nL_law 261 (i_bin (fun x y => x + y) 262) := s_iadd dL_law_261
theorem eL_law_262 : SiZ nL_law 262 (i_iald 58 263) := s_aldX dL_law_262
theorem eL_law_263 : ScZ nL_law 263 (c_V 3 266 5 1 (Mt mX0_set 5)) := e_V (mi := nL_law) (mi' := nX0_set) (len := 3) (fun h b as rest hk hl => cs_V (ci := 0) (mi := nL_law) (pc := 263) (y := yX0_set) (idx := 18) dL_law_263 q447 q448 q449 rfl hk hyX0_set (sigW q450) pnX0_set hl) wdX0_set zX0_set (Nat.le_of_ble_eq_true rfl) (Nat.le_of_ble_eq_true rfl)
theorem eL_law_266 : SiZ nL_law 266 (i_aload 2 267) := s_aload_n dL_law_266 rfl
theorem eL_law_267 : SiZ nL_law 267 (i_aload 0 268) := s_aload_n dL_law_267 rfl
theorem eL_law_268 : SiZ nL_law 268 (i_iload 3 269) := s_iload_n dL_law_268 rfl
theorem eL_law_269 : SiZ nL_law 269 (i_push (.int 1) 270) := s_iconst dL_law_269 (by decide)
theorem eL_law_270 : SiZ nL_law 270 (i_bin (fun x y => x + y) 271) := s_iadd dL_law_270
theorem eL_law_271 : SiZ nL_law 271 (i_iald 58 272) := s_aldX dL_law_271
theorem eL_law_272 : SiZ nL_law 272 (i_aload 0 273) := s_aload_n dL_law_272 rfl
theorem eL_law_273 : SiZ nL_law 273 (i_iload 3 274) := s_iload_n dL_law_273 rfl
theorem eL_law_274 : SiZ nL_law 274 (i_push (.int 2) 275) := s_iconst dL_law_274 (by decide)
theorem eL_law_275 : SiZ nL_law 275 (i_bin (fun x y => x + y) 276) := s_iadd dL_law_275
theorem eL_law_276 : SiZ nL_law 276 (i_iald 58 277) := s_aldX dL_law_276
theorem eL_law_277 : SiZ nL_law 277 (i_aload 0 278) := s_aload_n dL_law_277 rfl
theorem eL_law_278 : SiZ nL_law 278 (i_iload 3 279) := s_iload_n dL_law_278 rfl
theorem eL_law_279 : SiZ nL_law 279 (i_push (.int 3) 280) := s_iconst dL_law_279 (by decide)
theorem eL_law_280 : SiZ nL_law 280 (i_bin (fun x y => x + y) 281) := s_iadd dL_law_280
theorem eL_law_281 : SiZ nL_law 281 (i_iald 58 282) := s_aldX dL_law_281
theorem eL_law_282 : ScZ nL_law 282 (c_V 3 285 4 9 (Mt mX9_set 4)) := e_V (mi := nL_law) (mi' := nX9_set) (len := 3) (fun h b as rest hk hl => cs_V (ci := 8) (mi := nL_law) (pc := 282) (y := yX9_set) (idx := 21) dL_law_282 q1349 q1350 q1351 rfl hk hyX9_set (sigC q1352) pnX9_set hl) wdX9_set zX9_set (Nat.le_of_ble_eq_true rfl) (Nat.le_of_ble_eq_true rfl)
theorem eL_law_285 : SiZ nL_law 285 (i_icmp (fun x y => x = y) 1514 288) := s_icmp_eq dL_law_285 (by decide)
theorem eL_law_288 : SiZ nL_law 288 (i_push (.int 0) 289) := s_iconst dL_law_288 (by decide)
theorem eL_law_289 : SiZ nL_law 289 i_zret := s_zret dL_law_289 rfl
theorem eL_law_290 : SiZ nL_law 290 (i_aload 1 291) := s_aload_n dL_law_290 rfl
theorem eL_law_291 : SiZ nL_law 291 (i_aload 0 292) := s_aload_n dL_law_291 rfl
theorem eL_law_292 : SiZ nL_law 292 (i_iload 3 293) := s_iload_n dL_law_292 rfl
theorem eL_law_293 : SiZ nL_law 293 (i_push (.int 1) 294) := s_iconst dL_law_293 (by decide)
theorem eL_law_294 : SiZ nL_law 294 (i_bin (fun x y => x + y) 295) := s_iadd dL_law_294
theorem eL_law_295 : SiZ nL_law 295 (i_iald 58 296) := s_aldX dL_law_295
theorem eL_law_296 : SiZ nL_law 296 (i_aload 0 297) := s_aload_n dL_law_296 rfl
theorem eL_law_297 : SiZ nL_law 297 (i_iload 3 298) := s_iload_n dL_law_297 rfl
theorem eL_law_298 : SiZ nL_law 298 (i_push (.int 2) 299) := s_iconst dL_law_298 (by decide)
theorem eL_law_299 : SiZ nL_law 299 (i_bin (fun x y => x + y) 300) := s_iadd dL_law_299
theorem eL_law_300 : SiZ nL_law 300 (i_iald 58 301) := s_aldX dL_law_300
theorem eL_law_301 : SiZ nL_law 301 (i_aload 0 302) := s_aload_n dL_law_301 rfl
theorem eL_law_302 : SiZ nL_law 302 (i_iload 3 303) := s_iload_n dL_law_302 rfl
theorem eL_law_303 : SiZ nL_law 303 (i_push (.int 3) 304) := s_iconst dL_law_303 (by decide)
theorem eL_law_304 : SiZ nL_law 304 (i_bin (fun x y => x + y) 305) := s_iadd dL_law_304
theorem eL_law_305 : SiZ nL_law 305 (i_iald 58 306) := s_aldX dL_law_305
theorem eL_law_306 : SiZ nL_law 306 (i_aload 0 307) := s_aload_n dL_law_306 rfl
theorem eL_law_307 : SiZ nL_law 307 (i_iload 3 308) := s_iload_n dL_law_307 rfl
theorem eL_law_308 : SiZ nL_law 308 (i_push (.int 4) 309) := s_iconst dL_law_308 (by decide)
theorem eL_law_309 : SiZ nL_law 309 (i_bin (fun x y => x + y) 310) := s_iadd dL_law_309
theorem eL_law_310 : SiZ nL_law 310 (i_iald 58 311) := s_aldX dL_law_310
theorem eL_law_311 : SiZ nL_law 311 (i_aload 0 312) := s_aload_n dL_law_311 rfl
theorem eL_law_312 : SiZ nL_law 312 (i_iload 3 313) := s_iload_n dL_law_312 rfl
theorem eL_law_313 : SiZ nL_law 313 (i_push (.int 5) 314) := s_iconst dL_law_313 (by decide)
theorem eL_law_314 : SiZ nL_law 314 (i_bin (fun x y => x + y) 315) := s_iadd dL_law_314
theorem eL_law_315 : SiZ nL_law 315 (i_iald 58 316) := s_aldX dL_law_315
theorem eL_law_316 : ScZ nL_law 316 (c_V 5 319 9 1 (Mt mX0_copy 9)) := e_V (mi := nL_law) (mi' := nX0_copy) (len := 3) (fun h b as rest hk hl => cs_V (ci := 0) (mi := nL_law) (pc := 316) (y := yX0_copy) (idx := 22) dL_law_316 q459 q460 q461 rfl hk hyX0_copy (sigW q462) pnX0_copy hl) wdX0_copy zX0_copy (Nat.le_of_ble_eq_true rfl) (Nat.le_of_ble_eq_true rfl)
theorem eL_law_319 : SiZ nL_law 319 (i_aload 2 320) := s_aload_n dL_law_319 rfl
theorem eL_law_320 : SiZ nL_law 320 (i_aload 0 321) := s_aload_n dL_law_320 rfl
theorem eL_law_321 : SiZ nL_law 321 (i_iload 3 322) := s_iload_n dL_law_321 rfl
theorem eL_law_322 : SiZ nL_law 322 (i_push (.int 1) 323) := s_iconst dL_law_322 (by decide)
theorem eL_law_323 : SiZ nL_law 323 (i_bin (fun x y => x + y) 324) := s_iadd dL_law_323
theorem eL_law_324 : SiZ nL_law 324 (i_iald 58 325) := s_aldX dL_law_324
theorem eL_law_325 : SiZ nL_law 325 (i_aload 0 326) := s_aload_n dL_law_325 rfl
theorem eL_law_326 : SiZ nL_law 326 (i_iload 3 327) := s_iload_n dL_law_326 rfl
theorem eL_law_327 : SiZ nL_law 327 (i_push (.int 2) 328) := s_iconst dL_law_327 (by decide)
theorem eL_law_328 : SiZ nL_law 328 (i_bin (fun x y => x + y) 329) := s_iadd dL_law_328
theorem eL_law_329 : SiZ nL_law 329 (i_iald 58 330) := s_aldX dL_law_329
theorem eL_law_330 : SiZ nL_law 330 (i_aload 0 331) := s_aload_n dL_law_330 rfl
theorem eL_law_331 : SiZ nL_law 331 (i_iload 3 332) := s_iload_n dL_law_331 rfl
theorem eL_law_332 : SiZ nL_law 332 (i_push (.int 3) 333) := s_iconst dL_law_332 (by decide)
theorem eL_law_333 : SiZ nL_law 333 (i_bin (fun x y => x + y) 334) := s_iadd dL_law_333
theorem eL_law_334 : SiZ nL_law 334 (i_iald 58 335) := s_aldX dL_law_334
theorem eL_law_335 : SiZ nL_law 335 (i_aload 0 336) := s_aload_n dL_law_335 rfl
theorem eL_law_336 : SiZ nL_law 336 (i_iload 3 337) := s_iload_n dL_law_336 rfl
theorem eL_law_337 : SiZ nL_law 337 (i_push (.int 4) 338) := s_iconst dL_law_337 (by decide)
theorem eL_law_338 : SiZ nL_law 338 (i_bin (fun x y => x + y) 339) := s_iadd dL_law_338
theorem eL_law_339 : SiZ nL_law 339 (i_iald 58 340) := s_aldX dL_law_339
theorem eL_law_340 : SiZ nL_law 340 (i_aload 0 341) := s_aload_n dL_law_340 rfl
theorem eL_law_341 : SiZ nL_law 341 (i_iload 3 342) := s_iload_n dL_law_341 rfl
theorem eL_law_342 : SiZ nL_law 342 (i_push (.int 5) 343) := s_iconst dL_law_342 (by decide)
theorem eL_law_343 : SiZ nL_law 343 (i_bin (fun x y => x + y) 344) := s_iadd dL_law_343
theorem eL_law_344 : SiZ nL_law 344 (i_iald 58 345) := s_aldX dL_law_344
theorem eL_law_345 : ScZ nL_law 345 (c_V 5 348 7 9 (Mt mX9_copy 7)) := e_V (mi := nL_law) (mi' := nX9_copy) (len := 3) (fun h b as rest hk hl => cs_V (ci := 8) (mi := nL_law) (pc := 345) (y := yX9_copy) (idx := 26) dL_law_345 q1356 q1357 q1358 rfl hk hyX9_copy (sigC q1359) pnX9_copy hl) wdX9_copy zX9_copy (Nat.le_of_ble_eq_true rfl) (Nat.le_of_ble_eq_true rfl)
theorem eL_law_348 : SiZ nL_law 348 (i_icmp (fun x y => x = y) 1514 351) := s_icmp_eq dL_law_348 (by decide)
theorem eL_law_351 : SiZ nL_law 351 (i_push (.int 0) 352) := s_iconst dL_law_351 (by decide)
theorem eL_law_352 : SiZ nL_law 352 i_zret := s_zret dL_law_352 rfl
theorem eL_law_353 : SiZ nL_law 353 (i_aload 1 354) := s_aload_n dL_law_353 rfl
theorem eL_law_354 : SiZ nL_law 354 (i_aload 0 355) := s_aload_n dL_law_354 rfl
theorem eL_law_355 : SiZ nL_law 355 (i_iload 3 356) := s_iload_n dL_law_355 rfl
theorem eL_law_356 : SiZ nL_law 356 (i_push (.int 1) 357) := s_iconst dL_law_356 (by decide)
theorem eL_law_357 : SiZ nL_law 357 (i_bin (fun x y => x + y) 358) := s_iadd dL_law_357
theorem eL_law_358 : SiZ nL_law 358 (i_iald 58 359) := s_aldX dL_law_358
theorem eL_law_359 : ScZ nL_law 359 (c_V 1 362 3 1 (Mt mX0_drop 3)) := e_V (mi := nL_law) (mi' := nX0_drop) (len := 3) (fun h b as rest hk hl => cs_V (ci := 0) (mi := nL_law) (pc := 359) (y := yX0_drop) (idx := 27) dL_law_359 q500 q501 q502 rfl hk hyX0_drop (sigW q503) pnX0_drop hl) wdX0_drop zX0_drop (Nat.le_of_ble_eq_true rfl) (Nat.le_of_ble_eq_true rfl)
theorem eL_law_362 : SiZ nL_law 362 (i_aload 2 363) := s_aload_n dL_law_362 rfl
theorem eL_law_363 : SiZ nL_law 363 (i_aload 0 364) := s_aload_n dL_law_363 rfl
theorem eL_law_364 : SiZ nL_law 364 (i_iload 3 365) := s_iload_n dL_law_364 rfl
theorem eL_law_365 : SiZ nL_law 365 (i_push (.int 1) 366) := s_iconst dL_law_365 (by decide)
theorem eL_law_366 : SiZ nL_law 366 (i_bin (fun x y => x + y) 367) := s_iadd dL_law_366
theorem eL_law_367 : SiZ nL_law 367 (i_iald 58 368) := s_aldX dL_law_367
theorem eL_law_368 : ScZ nL_law 368 (c_V 1 371 3 9 (Mt mX9_drop 3)) := e_V (mi := nL_law) (mi' := nX9_drop) (len := 3) (fun h b as rest hk hl => cs_V (ci := 8) (mi := nL_law) (pc := 368) (y := yX9_drop) (idx := 31) dL_law_368 q1360 q1361 q1362 rfl hk hyX9_drop (sigC q1363) pnX9_drop hl) wdX9_drop zX9_drop (Nat.le_of_ble_eq_true rfl) (Nat.le_of_ble_eq_true rfl)
theorem eL_law_371 : SiZ nL_law 371 (i_icmp (fun x y => x = y) 1514 374) := s_icmp_eq dL_law_371 (by decide)
theorem eL_law_374 : SiZ nL_law 374 (i_push (.int 0) 375) := s_iconst dL_law_374 (by decide)
theorem eL_law_375 : SiZ nL_law 375 i_zret := s_zret dL_law_375 rfl
theorem eL_law_376 : SiZ nL_law 376 (i_aload 1 377) := s_aload_n dL_law_376 rfl
theorem eL_law_377 : SiZ nL_law 377 (i_aload 0 378) := s_aload_n dL_law_377 rfl
theorem eL_law_378 : SiZ nL_law 378 (i_iload 3 379) := s_iload_n dL_law_378 rfl
theorem eL_law_379 : SiZ nL_law 379 (i_push (.int 1) 380) := s_iconst dL_law_379 (by decide)
theorem eL_law_380 : SiZ nL_law 380 (i_bin (fun x y => x + y) 381) := s_iadd dL_law_380
theorem eL_law_381 : SiZ nL_law 381 (i_iald 58 382) := s_aldX dL_law_381
theorem eL_law_382 : ScZ nL_law 382 (c_V 1 385 2 1 (Mt mX0_feed 2)) := e_V (mi := nL_law) (mi' := nX0_feed) (len := 3) (fun h b as rest hk hl => cs_V (ci := 0) (mi := nL_law) (pc := 382) (y := yX0_feed) (idx := 32) dL_law_382 q504 q505 q506 rfl hk hyX0_feed (sigC q507) pnX0_feed hl) wdX0_feed zX0_feed (Nat.le_of_ble_eq_true rfl) (Nat.le_of_ble_eq_true rfl)
theorem eL_law_385 : SiZ nL_law 385 (i_aload 2 386) := s_aload_n dL_law_385 rfl
theorem eL_law_386 : SiZ nL_law 386 (i_aload 0 387) := s_aload_n dL_law_386 rfl
theorem eL_law_387 : SiZ nL_law 387 (i_iload 3 388) := s_iload_n dL_law_387 rfl
theorem eL_law_388 : SiZ nL_law 388 (i_push (.int 1) 389) := s_iconst dL_law_388 (by decide)
theorem eL_law_389 : SiZ nL_law 389 (i_bin (fun x y => x + y) 390) := s_iadd dL_law_389
theorem eL_law_390 : SiZ nL_law 390 (i_iald 58 391) := s_aldX dL_law_390
theorem eL_law_391 : ScZ nL_law 391 (c_V 1 394 2 9 (Mt mX9_feed 2)) := e_V (mi := nL_law) (mi' := nX9_feed) (len := 3) (fun h b as rest hk hl => cs_V (ci := 8) (mi := nL_law) (pc := 391) (y := yX9_feed) (idx := 35) dL_law_391 q1364 q1365 q1366 rfl hk hyX9_feed (sigC q1367) pnX9_feed hl) wdX9_feed zX9_feed (Nat.le_of_ble_eq_true rfl) (Nat.le_of_ble_eq_true rfl)
theorem eL_law_394 : SiZ nL_law 394 (i_icmp (fun x y => x = y) 1514 397) := s_icmp_eq dL_law_394 (by decide)
theorem eL_law_397 : SiZ nL_law 397 (i_push (.int 0) 398) := s_iconst dL_law_397 (by decide)
theorem eL_law_398 : SiZ nL_law 398 i_zret := s_zret dL_law_398 rfl
theorem eL_law_399 : SiZ nL_law 399 (i_aload 1 400) := s_aload_n dL_law_399 rfl
theorem eL_law_400 : ScZ nL_law 400 (c_V 0 403 3 1 (Mt mX0_library 3)) := e_V (mi := nL_law) (mi' := nX0_library) (len := 3) (fun h b as rest hk hl => cs_V (ci := 0) (mi := nL_law) (pc := 400) (y := yX0_library) (idx := 36) dL_law_400 q510 q511 q512 rfl hk hyX0_library (sigW q513) pnX0_library hl) wdX0_library zX0_library (Nat.le_of_ble_eq_true rfl) (Nat.le_of_ble_eq_true rfl)
theorem eL_law_403 : SiZ nL_law 403 (i_aload 2 404) := s_aload_n dL_law_403 rfl
theorem eL_law_404 : ScZ nL_law 404 (c_V 0 407 3 9 (Mt mX9_library 3)) := e_V (mi := nL_law) (mi' := nX9_library) (len := 3) (fun h b as rest hk hl => cs_V (ci := 8) (mi := nL_law) (pc := 404) (y := yX9_library) (idx := 40) dL_law_404 q1370 q1371 q1372 rfl hk hyX9_library (sigC q1373) pnX9_library hl) wdX9_library zX9_library (Nat.le_of_ble_eq_true rfl) (Nat.le_of_ble_eq_true rfl)
theorem eL_law_407 : SiZ nL_law 407 (i_icmp (fun x y => x = y) 1514 410) := s_icmp_eq dL_law_407 (by decide)
theorem eL_law_410 : SiZ nL_law 410 (i_push (.int 0) 411) := s_iconst dL_law_410 (by decide)
theorem eL_law_411 : SiZ nL_law 411 i_zret := s_zret dL_law_411 rfl
theorem eL_law_412 : SiZ nL_law 412 (i_aload 1 413) := s_aload_n dL_law_412 rfl
theorem eL_law_413 : ScZ nL_law 413 (c_V 0 416 1 1 (Mt mX0_fault 1)) := e_V (mi := nL_law) (mi' := nX0_fault) (len := 3) (fun h b as rest hk hl => cs_V (ci := 0) (mi := nL_law) (pc := 413) (y := yX0_fault) (idx := 41) dL_law_413 q769 q770 q771 rfl hk hyX0_fault (sigC q772) pnX0_fault hl) wdX0_fault zX0_fault (Nat.le_of_ble_eq_true rfl) (Nat.le_of_ble_eq_true rfl)
theorem eL_law_416 : SiZ nL_law 416 (i_aload 2 417) := s_aload_n dL_law_416 rfl
theorem eL_law_417 : ScZ nL_law 417 (c_V 0 420 1 9 (Mt mX9_fault 1)) := e_V (mi := nL_law) (mi' := nX9_fault) (len := 3) (fun h b as rest hk hl => cs_V (ci := 8) (mi := nL_law) (pc := 417) (y := yX9_fault) (idx := 44) dL_law_417 q1414 q1415 q1416 rfl hk hyX9_fault (sigC q1417) pnX9_fault hl) wdX9_fault zX9_fault (Nat.le_of_ble_eq_true rfl) (Nat.le_of_ble_eq_true rfl)
theorem eL_law_420 : SiZ nL_law 420 (i_icmp (fun x y => x = y) 1514 423) := s_icmp_eq dL_law_420 (by decide)
theorem eL_law_423 : SiZ nL_law 423 (i_push (.int 0) 424) := s_iconst dL_law_423 (by decide)
theorem eL_law_424 : SiZ nL_law 424 i_zret := s_zret dL_law_424 rfl
theorem eL_law_425 : SiZ nL_law 425 (i_aload 1 426) := s_aload_n dL_law_425 rfl
theorem eL_law_426 : ScZ nL_law 426 (c_V 0 429 1 1 (Mt mX0_undo 1)) := e_V (mi := nL_law) (mi' := nX0_undo) (len := 3) (fun h b as rest hk hl => cs_V (ci := 0) (mi := nL_law) (pc := 426) (y := yX0_undo) (idx := 45) dL_law_426 q773 q774 q775 rfl hk hyX0_undo (sigC q776) pnX0_undo hl) wdX0_undo zX0_undo (Nat.le_of_ble_eq_true rfl) (Nat.le_of_ble_eq_true rfl)
theorem eL_law_429 : SiZ nL_law 429 (i_aload 2 430) := s_aload_n dL_law_429 rfl
theorem eL_law_430 : ScZ nL_law 430 (c_V 0 433 2 9 (Mt mX9_undo 2)) := e_V (mi := nL_law) (mi' := nX9_undo) (len := 3) (fun h b as rest hk hl => cs_V (ci := 8) (mi := nL_law) (pc := 430) (y := yX9_undo) (idx := 48) dL_law_430 q1418 q1419 q1420 rfl hk hyX9_undo (sigC q1421) pnX9_undo hl) wdX9_undo zX9_undo (Nat.le_of_ble_eq_true rfl) (Nat.le_of_ble_eq_true rfl)
theorem eL_law_433 : SiZ nL_law 433 (i_icmp (fun x y => x = y) 1514 436) := s_icmp_eq dL_law_433 (by decide)
theorem eL_law_436 : SiZ nL_law 436 (i_push (.int 0) 437) := s_iconst dL_law_436 (by decide)
theorem eL_law_437 : SiZ nL_law 437 i_zret := s_zret dL_law_437 rfl
theorem eL_law_438 : SiZ nL_law 438 (i_aload 1 439) := s_aload_n dL_law_438 rfl
theorem eL_law_439 : SiZ nL_law 439 (i_aload 0 440) := s_aload_n dL_law_439 rfl
theorem eL_law_440 : SiZ nL_law 440 (i_iload 3 441) := s_iload_n dL_law_440 rfl
theorem eL_law_441 : SiZ nL_law 441 (i_push (.int 1) 442) := s_iconst dL_law_441 (by decide)
theorem eL_law_442 : SiZ nL_law 442 (i_bin (fun x y => x + y) 443) := s_iadd dL_law_442
theorem eL_law_443 : SiZ nL_law 443 (i_iald 58 444) := s_aldX dL_law_443
theorem eL_law_444 : ScZ nL_law 444 (c_V 1 447 3 1 (Mt mX0_nights 3)) := e_V (mi := nL_law) (mi' := nX0_nights) (len := 3) (fun h b as rest hk hl => cs_V (ci := 0) (mi := nL_law) (pc := 444) (y := yX0_nights) (idx := 49) dL_law_444 q778 q779 q780 rfl hk hyX0_nights (sigC q781) pnX0_nights hl) wdX0_nights zX0_nights (Nat.le_of_ble_eq_true rfl) (Nat.le_of_ble_eq_true rfl)
theorem eL_law_447 : SiZ nL_law 447 (i_aload 2 448) := s_aload_n dL_law_447 rfl
theorem eL_law_448 : SiZ nL_law 448 (i_aload 0 449) := s_aload_n dL_law_448 rfl
theorem eL_law_449 : SiZ nL_law 449 (i_iload 3 450) := s_iload_n dL_law_449 rfl
theorem eL_law_450 : SiZ nL_law 450 (i_push (.int 1) 451) := s_iconst dL_law_450 (by decide)
theorem eL_law_451 : SiZ nL_law 451 (i_bin (fun x y => x + y) 452) := s_iadd dL_law_451
theorem eL_law_452 : SiZ nL_law 452 (i_iald 58 453) := s_aldX dL_law_452
theorem eL_law_453 : ScZ nL_law 453 (c_V 1 456 3 9 (Mt mX9_nights 3)) := e_V (mi := nL_law) (mi' := nX9_nights) (len := 3) (fun h b as rest hk hl => cs_V (ci := 8) (mi := nL_law) (pc := 453) (y := yX9_nights) (idx := 52) dL_law_453 q1423 q1424 q1425 rfl hk hyX9_nights (sigC q1426) pnX9_nights hl) wdX9_nights zX9_nights (Nat.le_of_ble_eq_true rfl) (Nat.le_of_ble_eq_true rfl)
theorem eL_law_456 : SiZ nL_law 456 (i_icmp (fun x y => x = y) 1514 459) := s_icmp_eq dL_law_456 (by decide)
theorem eL_law_459 : SiZ nL_law 459 (i_push (.int 0) 460) := s_iconst dL_law_459 (by decide)
theorem eL_law_460 : SiZ nL_law 460 i_zret := s_zret dL_law_460 rfl
theorem eL_law_461 : SiZ nL_law 461 (i_aload 1 462) := s_aload_n dL_law_461 rfl
theorem eL_law_462 : SiZ nL_law 462 (i_aload 0 463) := s_aload_n dL_law_462 rfl
theorem eL_law_463 : SiZ nL_law 463 (i_iload 3 464) := s_iload_n dL_law_463 rfl
theorem eL_law_464 : SiZ nL_law 464 (i_push (.int 1) 465) := s_iconst dL_law_464 (by decide)
theorem eL_law_465 : SiZ nL_law 465 (i_bin (fun x y => x + y) 466) := s_iadd dL_law_465
theorem eL_law_466 : SiZ nL_law 466 (i_iald 58 467) := s_aldX dL_law_466
theorem eL_law_467 : SiZ nL_law 467 (i_aload 0 468) := s_aload_n dL_law_467 rfl
theorem eL_law_468 : SiZ nL_law 468 (i_iload 3 469) := s_iload_n dL_law_468 rfl
theorem eL_law_469 : SiZ nL_law 469 (i_push (.int 2) 470) := s_iconst dL_law_469 (by decide)
theorem eL_law_470 : SiZ nL_law 470 (i_bin (fun x y => x + y) 471) := s_iadd dL_law_470
theorem eL_law_471 : SiZ nL_law 471 (i_iald 58 472) := s_aldX dL_law_471
theorem eL_law_472 : ScZ nL_law 472 (c_V 2 475 3 1 (Mt mX0_light 3)) := e_V (mi := nL_law) (mi' := nX0_light) (len := 3) (fun h b as rest hk hl => cs_V (ci := 0) (mi := nL_law) (pc := 472) (y := yX0_light) (idx := 53) dL_law_472 q888 q889 q890 rfl hk hyX0_light (sigC q891) pnX0_light hl) wdX0_light zX0_light (Nat.le_of_ble_eq_true rfl) (Nat.le_of_ble_eq_true rfl)
theorem eL_law_475 : SiZ nL_law 475 (i_aload 2 476) := s_aload_n dL_law_475 rfl
theorem eL_law_476 : SiZ nL_law 476 (i_aload 0 477) := s_aload_n dL_law_476 rfl
theorem eL_law_477 : SiZ nL_law 477 (i_iload 3 478) := s_iload_n dL_law_477 rfl
theorem eL_law_478 : SiZ nL_law 478 (i_push (.int 1) 479) := s_iconst dL_law_478 (by decide)
theorem eL_law_479 : SiZ nL_law 479 (i_bin (fun x y => x + y) 480) := s_iadd dL_law_479
theorem eL_law_480 : SiZ nL_law 480 (i_iald 58 481) := s_aldX dL_law_480
theorem eL_law_481 : SiZ nL_law 481 (i_aload 0 482) := s_aload_n dL_law_481 rfl
theorem eL_law_482 : SiZ nL_law 482 (i_iload 3 483) := s_iload_n dL_law_482 rfl
theorem eL_law_483 : SiZ nL_law 483 (i_push (.int 2) 484) := s_iconst dL_law_483 (by decide)
theorem eL_law_484 : SiZ nL_law 484 (i_bin (fun x y => x + y) 485) := s_iadd dL_law_484
theorem eL_law_485 : SiZ nL_law 485 (i_iald 58 486) := s_aldX dL_law_485
theorem eL_law_486 : ScZ nL_law 486 (c_V 2 489 3 9 (Mt mX9_light 3)) := e_V (mi := nL_law) (mi' := nX9_light) (len := 3) (fun h b as rest hk hl => cs_V (ci := 8) (mi := nL_law) (pc := 486) (y := yX9_light) (idx := 57) dL_law_486 q1472 q1473 q1474 rfl hk hyX9_light (sigC q1475) pnX9_light hl) wdX9_light zX9_light (Nat.le_of_ble_eq_true rfl) (Nat.le_of_ble_eq_true rfl)
theorem eL_law_489 : SiZ nL_law 489 (i_icmp (fun x y => x = y) 1514 492) := s_icmp_eq dL_law_489 (by decide)
theorem eL_law_492 : SiZ nL_law 492 (i_push (.int 0) 493) := s_iconst dL_law_492 (by decide)
theorem eL_law_493 : SiZ nL_law 493 i_zret := s_zret dL_law_493 rfl
theorem eL_law_494 : SiZ nL_law 494 (i_aload 1 495) := s_aload_n dL_law_494 rfl
theorem eL_law_495 : SiZ nL_law 495 (i_aload 0 496) := s_aload_n dL_law_495 rfl
theorem eL_law_496 : SiZ nL_law 496 (i_iload 3 497) := s_iload_n dL_law_496 rfl
theorem eL_law_497 : SiZ nL_law 497 (i_push (.int 1) 498) := s_iconst dL_law_497 (by decide)
theorem eL_law_498 : SiZ nL_law 498 (i_bin (fun x y => x + y) 499) := s_iadd dL_law_498
theorem eL_law_499 : SiZ nL_law 499 (i_iald 58 500) := s_aldX dL_law_499
theorem eL_law_500 : SiZ nL_law 500 (i_aload 0 501) := s_aload_n dL_law_500 rfl
theorem eL_law_501 : SiZ nL_law 501 (i_iload 3 502) := s_iload_n dL_law_501 rfl
theorem eL_law_502 : SiZ nL_law 502 (i_push (.int 2) 503) := s_iconst dL_law_502 (by decide)
theorem eL_law_503 : SiZ nL_law 503 (i_bin (fun x y => x + y) 504) := s_iadd dL_law_503
theorem eL_law_504 : SiZ nL_law 504 (i_iald 58 505) := s_aldX dL_law_504
theorem eL_law_505 : ScZ nL_law 505 (c_V 2 508 3 1 (Mt mX0_keepIt 3)) := e_V (mi := nL_law) (mi' := nX0_keepIt) (len := 3) (fun h b as rest hk hl => cs_V (ci := 0) (mi := nL_law) (pc := 505) (y := yX0_keepIt) (idx := 58) dL_law_505 q905 q906 q907 rfl hk hyX0_keepIt (sigC q908) pnX0_keepIt hl) wdX0_keepIt zX0_keepIt (Nat.le_of_ble_eq_true rfl) (Nat.le_of_ble_eq_true rfl)
theorem eL_law_508 : SiZ nL_law 508 (i_aload 2 509) := s_aload_n dL_law_508 rfl
theorem eL_law_509 : SiZ nL_law 509 (i_aload 0 510) := s_aload_n dL_law_509 rfl
theorem eL_law_510 : SiZ nL_law 510 (i_iload 3 511) := s_iload_n dL_law_510 rfl
theorem eL_law_511 : SiZ nL_law 511 (i_push (.int 1) 512) := s_iconst dL_law_511 (by decide)
theorem eL_law_512 : SiZ nL_law 512 (i_bin (fun x y => x + y) 513) := s_iadd dL_law_512
theorem eL_law_513 : SiZ nL_law 513 (i_iald 58 514) := s_aldX dL_law_513
theorem eL_law_514 : SiZ nL_law 514 (i_aload 0 515) := s_aload_n dL_law_514 rfl
theorem eL_law_515 : SiZ nL_law 515 (i_iload 3 516) := s_iload_n dL_law_515 rfl
theorem eL_law_516 : SiZ nL_law 516 (i_push (.int 2) 517) := s_iconst dL_law_516 (by decide)
theorem eL_law_517 : SiZ nL_law 517 (i_bin (fun x y => x + y) 518) := s_iadd dL_law_517
theorem eL_law_518 : SiZ nL_law 518 (i_iald 58 519) := s_aldX dL_law_518
theorem eL_law_519 : ScZ nL_law 519 (c_V 2 522 3 9 (Mt mX9_keepIt 3)) := e_V (mi := nL_law) (mi' := nX9_keepIt) (len := 3) (fun h b as rest hk hl => cs_V (ci := 8) (mi := nL_law) (pc := 519) (y := yX9_keepIt) (idx := 61) dL_law_519 q1483 q1484 q1485 rfl hk hyX9_keepIt (sigC q1486) pnX9_keepIt hl) wdX9_keepIt zX9_keepIt (Nat.le_of_ble_eq_true rfl) (Nat.le_of_ble_eq_true rfl)
theorem eL_law_522 : SiZ nL_law 522 (i_icmp (fun x y => x = y) 1514 525) := s_icmp_eq dL_law_522 (by decide)
theorem eL_law_525 : SiZ nL_law 525 (i_push (.int 0) 526) := s_iconst dL_law_525 (by decide)
theorem eL_law_526 : SiZ nL_law 526 i_zret := s_zret dL_law_526 rfl
theorem eL_law_527 : SiZ nL_law 527 (i_aload 1 528) := s_aload_n dL_law_527 rfl
theorem eL_law_528 : SiZ nL_law 528 (i_aload 0 529) := s_aload_n dL_law_528 rfl
theorem eL_law_529 : SiZ nL_law 529 (i_iload 3 530) := s_iload_n dL_law_529 rfl
theorem eL_law_530 : SiZ nL_law 530 (i_push (.int 1) 531) := s_iconst dL_law_530 (by decide)
theorem eL_law_531 : SiZ nL_law 531 (i_bin (fun x y => x + y) 532) := s_iadd dL_law_531
theorem eL_law_532 : SiZ nL_law 532 (i_iald 58 533) := s_aldX dL_law_532
theorem eL_law_533 : SiZ nL_law 533 (i_aload 0 534) := s_aload_n dL_law_533 rfl
theorem eL_law_534 : SiZ nL_law 534 (i_iload 3 535) := s_iload_n dL_law_534 rfl
theorem eL_law_535 : SiZ nL_law 535 (i_push (.int 2) 536) := s_iconst dL_law_535 (by decide)
theorem eL_law_536 : SiZ nL_law 536 (i_bin (fun x y => x + y) 537) := s_iadd dL_law_536
theorem eL_law_537 : SiZ nL_law 537 (i_iald 58 538) := s_aldX dL_law_537
theorem eL_law_538 : ScZ nL_law 538 (c_V 2 541 4 1 (Mt mX0_change 4)) := e_V (mi := nL_law) (mi' := nX0_change) (len := 3) (fun h b as rest hk hl => cs_V (ci := 0) (mi := nL_law) (pc := 538) (y := yX0_change) (idx := 62) dL_law_538 q909 q910 q911 rfl hk hyX0_change (sigC q912) pnX0_change hl) wdX0_change zX0_change (Nat.le_of_ble_eq_true rfl) (Nat.le_of_ble_eq_true rfl)
theorem eL_law_541 : SiZ nL_law 541 (i_aload 2 542) := s_aload_n dL_law_541 rfl
theorem eL_law_542 : SiZ nL_law 542 (i_aload 0 543) := s_aload_n dL_law_542 rfl
theorem eL_law_543 : SiZ nL_law 543 (i_iload 3 544) := s_iload_n dL_law_543 rfl
theorem eL_law_544 : SiZ nL_law 544 (i_push (.int 1) 545) := s_iconst dL_law_544 (by decide)
theorem eL_law_545 : SiZ nL_law 545 (i_bin (fun x y => x + y) 546) := s_iadd dL_law_545
theorem eL_law_546 : SiZ nL_law 546 (i_iald 58 547) := s_aldX dL_law_546
theorem eL_law_547 : SiZ nL_law 547 (i_aload 0 548) := s_aload_n dL_law_547 rfl
theorem eL_law_548 : SiZ nL_law 548 (i_iload 3 549) := s_iload_n dL_law_548 rfl
theorem eL_law_549 : SiZ nL_law 549 (i_push (.int 2) 550) := s_iconst dL_law_549 (by decide)
theorem eL_law_550 : SiZ nL_law 550 (i_bin (fun x y => x + y) 551) := s_iadd dL_law_550
theorem eL_law_551 : SiZ nL_law 551 (i_iald 58 552) := s_aldX dL_law_551
theorem eL_law_552 : ScZ nL_law 552 (c_V 2 555 4 9 (Mt mX9_change 4)) := e_V (mi := nL_law) (mi' := nX9_change) (len := 3) (fun h b as rest hk hl => cs_V (ci := 8) (mi := nL_law) (pc := 552) (y := yX9_change) (idx := 65) dL_law_552 q1487 q1488 q1489 rfl hk hyX9_change (sigC q1490) pnX9_change hl) wdX9_change zX9_change (Nat.le_of_ble_eq_true rfl) (Nat.le_of_ble_eq_true rfl)
theorem eL_law_555 : SiZ nL_law 555 (i_icmp (fun x y => x = y) 1514 558) := s_icmp_eq dL_law_555 (by decide)
theorem eL_law_558 : SiZ nL_law 558 (i_push (.int 0) 559) := s_iconst dL_law_558 (by decide)
theorem eL_law_559 : SiZ nL_law 559 i_zret := s_zret dL_law_559 rfl
theorem eL_law_560 : SiZ nL_law 560 (i_aload 1 561) := s_aload_n dL_law_560 rfl
theorem eL_law_561 : SiZ nL_law 561 (i_aload 0 562) := s_aload_n dL_law_561 rfl
theorem eL_law_562 : SiZ nL_law 562 (i_iload 3 563) := s_iload_n dL_law_562 rfl
theorem eL_law_563 : SiZ nL_law 563 (i_push (.int 1) 564) := s_iconst dL_law_563 (by decide)
theorem eL_law_564 : SiZ nL_law 564 (i_bin (fun x y => x + y) 565) := s_iadd dL_law_564
theorem eL_law_565 : SiZ nL_law 565 (i_iald 58 566) := s_aldX dL_law_565
theorem eL_law_566 : SiZ nL_law 566 (i_aload 0 567) := s_aload_n dL_law_566 rfl
theorem eL_law_567 : SiZ nL_law 567 (i_iload 3 568) := s_iload_n dL_law_567 rfl
theorem eL_law_568 : SiZ nL_law 568 (i_push (.int 2) 569) := s_iconst dL_law_568 (by decide)
theorem eL_law_569 : SiZ nL_law 569 (i_bin (fun x y => x + y) 570) := s_iadd dL_law_569
theorem eL_law_570 : SiZ nL_law 570 (i_iald 58 571) := s_aldX dL_law_570
theorem eL_law_571 : ScZ nL_law 571 (c_V 2 574 4 1 (Mt mX0_move 4)) := e_V (mi := nL_law) (mi' := nX0_move) (len := 3) (fun h b as rest hk hl => cs_V (ci := 0) (mi := nL_law) (pc := 571) (y := yX0_move) (idx := 66) dL_law_571 q914 q915 q916 rfl hk hyX0_move (sigC q917) pnX0_move hl) wdX0_move zX0_move (Nat.le_of_ble_eq_true rfl) (Nat.le_of_ble_eq_true rfl)
theorem eL_law_574 : SiZ nL_law 574 (i_aload 2 575) := s_aload_n dL_law_574 rfl
theorem eL_law_575 : SiZ nL_law 575 (i_aload 0 576) := s_aload_n dL_law_575 rfl
theorem eL_law_576 : SiZ nL_law 576 (i_iload 3 577) := s_iload_n dL_law_576 rfl
theorem eL_law_577 : SiZ nL_law 577 (i_push (.int 1) 578) := s_iconst dL_law_577 (by decide)
theorem eL_law_578 : SiZ nL_law 578 (i_bin (fun x y => x + y) 579) := s_iadd dL_law_578
theorem eL_law_579 : SiZ nL_law 579 (i_iald 58 580) := s_aldX dL_law_579
theorem eL_law_580 : SiZ nL_law 580 (i_aload 0 581) := s_aload_n dL_law_580 rfl
theorem eL_law_581 : SiZ nL_law 581 (i_iload 3 582) := s_iload_n dL_law_581 rfl
theorem eL_law_582 : SiZ nL_law 582 (i_push (.int 2) 583) := s_iconst dL_law_582 (by decide)
theorem eL_law_583 : SiZ nL_law 583 (i_bin (fun x y => x + y) 584) := s_iadd dL_law_583
theorem eL_law_584 : SiZ nL_law 584 (i_iald 58 585) := s_aldX dL_law_584
theorem eL_law_585 : ScZ nL_law 585 (c_V 2 588 4 9 (Mt mX9_move 4)) := e_V (mi := nL_law) (mi' := nX9_move) (len := 3) (fun h b as rest hk hl => cs_V (ci := 8) (mi := nL_law) (pc := 585) (y := yX9_move) (idx := 69) dL_law_585 q1491 q1492 q1493 rfl hk hyX9_move (sigC q1494) pnX9_move hl) wdX9_move zX9_move (Nat.le_of_ble_eq_true rfl) (Nat.le_of_ble_eq_true rfl)
theorem eL_law_588 : SiZ nL_law 588 (i_icmp (fun x y => x = y) 1514 591) := s_icmp_eq dL_law_588 (by decide)
theorem eL_law_591 : SiZ nL_law 591 (i_push (.int 0) 592) := s_iconst dL_law_591 (by decide)
theorem eL_law_592 : SiZ nL_law 592 i_zret := s_zret dL_law_592 rfl
theorem eL_law_593 : SiZ nL_law 593 (i_aload 1 594) := s_aload_n dL_law_593 rfl
theorem eL_law_594 : SiZ nL_law 594 (i_aload 0 595) := s_aload_n dL_law_594 rfl
theorem eL_law_595 : SiZ nL_law 595 (i_iload 3 596) := s_iload_n dL_law_595 rfl
theorem eL_law_596 : SiZ nL_law 596 (i_push (.int 1) 597) := s_iconst dL_law_596 (by decide)
theorem eL_law_597 : SiZ nL_law 597 (i_bin (fun x y => x + y) 598) := s_iadd dL_law_597
theorem eL_law_598 : SiZ nL_law 598 (i_iald 58 599) := s_aldX dL_law_598
theorem eL_law_599 : ScZ nL_law 599 (c_V 1 602 2 1 (Mt mX0_catchIt 2)) := e_V (mi := nL_law) (mi' := nX0_catchIt) (len := 3) (fun h b as rest hk hl => cs_V (ci := 0) (mi := nL_law) (pc := 599) (y := yX0_catchIt) (idx := 70) dL_law_599 q923 q924 q925 rfl hk hyX0_catchIt (sigC q926) pnX0_catchIt hl) wdX0_catchIt zX0_catchIt (Nat.le_of_ble_eq_true rfl) (Nat.le_of_ble_eq_true rfl)
theorem eL_law_602 : SiZ nL_law 602 (i_aload 2 603) := s_aload_n dL_law_602 rfl
theorem eL_law_603 : SiZ nL_law 603 (i_aload 0 604) := s_aload_n dL_law_603 rfl
theorem eL_law_604 : SiZ nL_law 604 (i_iload 3 605) := s_iload_n dL_law_604 rfl
theorem eL_law_605 : SiZ nL_law 605 (i_push (.int 1) 606) := s_iconst dL_law_605 (by decide)
theorem eL_law_606 : SiZ nL_law 606 (i_bin (fun x y => x + y) 607) := s_iadd dL_law_606
theorem eL_law_607 : SiZ nL_law 607 (i_iald 58 608) := s_aldX dL_law_607
theorem eL_law_608 : ScZ nL_law 608 (c_V 1 611 2 9 (Mt mX9_catchIt 2)) := e_V (mi := nL_law) (mi' := nX9_catchIt) (len := 3) (fun h b as rest hk hl => cs_V (ci := 8) (mi := nL_law) (pc := 608) (y := yX9_catchIt) (idx := 73) dL_law_608 q1499 q1500 q1501 rfl hk hyX9_catchIt (sigC q1502) pnX9_catchIt hl) wdX9_catchIt zX9_catchIt (Nat.le_of_ble_eq_true rfl) (Nat.le_of_ble_eq_true rfl)
theorem eL_law_611 : SiZ nL_law 611 (i_icmp (fun x y => x = y) 1514 614) := s_icmp_eq dL_law_611 (by decide)
theorem eL_law_614 : SiZ nL_law 614 (i_push (.int 0) 615) := s_iconst dL_law_614 (by decide)
theorem eL_law_615 : SiZ nL_law 615 i_zret := s_zret dL_law_615 rfl
theorem eL_law_616 : SiZ nL_law 616 (i_aload 1 617) := s_aload_n dL_law_616 rfl
theorem eL_law_617 : SiZ nL_law 617 (i_aload 0 618) := s_aload_n dL_law_617 rfl
theorem eL_law_618 : SiZ nL_law 618 (i_iload 3 619) := s_iload_n dL_law_618 rfl
theorem eL_law_619 : SiZ nL_law 619 (i_push (.int 1) 620) := s_iconst dL_law_619 (by decide)
theorem eL_law_620 : SiZ nL_law 620 (i_bin (fun x y => x + y) 621) := s_iadd dL_law_620
theorem eL_law_621 : SiZ nL_law 621 (i_iald 58 622) := s_aldX dL_law_621
theorem eL_law_622 : SiZ nL_law 622 (i_aload 0 623) := s_aload_n dL_law_622 rfl
theorem eL_law_623 : SiZ nL_law 623 (i_iload 3 624) := s_iload_n dL_law_623 rfl
theorem eL_law_624 : SiZ nL_law 624 (i_push (.int 2) 625) := s_iconst dL_law_624 (by decide)
theorem eL_law_625 : SiZ nL_law 625 (i_bin (fun x y => x + y) 626) := s_iadd dL_law_625
theorem eL_law_626 : SiZ nL_law 626 (i_iald 58 627) := s_aldX dL_law_626
theorem eL_law_627 : ScZ nL_law 627 (c_V 2 630 3 1 (Mt mX0_book 3)) := e_V (mi := nL_law) (mi' := nX0_book) (len := 3) (fun h b as rest hk hl => cs_V (ci := 0) (mi := nL_law) (pc := 627) (y := yX0_book) (idx := 74) dL_law_627 q927 q928 q929 rfl hk hyX0_book (sigC q930) pnX0_book hl) wdX0_book zX0_book (Nat.le_of_ble_eq_true rfl) (Nat.le_of_ble_eq_true rfl)
theorem eL_law_630 : SiZ nL_law 630 (i_aload 2 631) := s_aload_n dL_law_630 rfl
theorem eL_law_631 : SiZ nL_law 631 (i_aload 0 632) := s_aload_n dL_law_631 rfl
theorem eL_law_632 : SiZ nL_law 632 (i_iload 3 633) := s_iload_n dL_law_632 rfl
theorem eL_law_633 : SiZ nL_law 633 (i_push (.int 1) 634) := s_iconst dL_law_633 (by decide)
theorem eL_law_634 : SiZ nL_law 634 (i_bin (fun x y => x + y) 635) := s_iadd dL_law_634
theorem eL_law_635 : SiZ nL_law 635 (i_iald 58 636) := s_aldX dL_law_635
theorem eL_law_636 : SiZ nL_law 636 (i_aload 0 637) := s_aload_n dL_law_636 rfl
theorem eL_law_637 : SiZ nL_law 637 (i_iload 3 638) := s_iload_n dL_law_637 rfl
theorem eL_law_638 : SiZ nL_law 638 (i_push (.int 2) 639) := s_iconst dL_law_638 (by decide)
theorem eL_law_639 : SiZ nL_law 639 (i_bin (fun x y => x + y) 640) := s_iadd dL_law_639
theorem eL_law_640 : SiZ nL_law 640 (i_iald 58 641) := s_aldX dL_law_640
theorem eL_law_641 : ScZ nL_law 641 (c_V 2 644 3 9 (Mt mX9_book 3)) := e_V (mi := nL_law) (mi' := nX9_book) (len := 3) (fun h b as rest hk hl => cs_V (ci := 8) (mi := nL_law) (pc := 641) (y := yX9_book) (idx := 77) dL_law_641 q1503 q1504 q1505 rfl hk hyX9_book (sigC q1506) pnX9_book hl) wdX9_book zX9_book (Nat.le_of_ble_eq_true rfl) (Nat.le_of_ble_eq_true rfl)
theorem eL_law_644 : SiZ nL_law 644 (i_icmp (fun x y => x = y) 1514 647) := s_icmp_eq dL_law_644 (by decide)
theorem eL_law_647 : SiZ nL_law 647 (i_push (.int 0) 648) := s_iconst dL_law_647 (by decide)
theorem eL_law_648 : SiZ nL_law 648 i_zret := s_zret dL_law_648 rfl
theorem eL_law_649 : SiZ nL_law 649 (i_aload 1 650) := s_aload_n dL_law_649 rfl
theorem eL_law_650 : SiZ nL_law 650 (i_aload 0 651) := s_aload_n dL_law_650 rfl
theorem eL_law_651 : SiZ nL_law 651 (i_iload 3 652) := s_iload_n dL_law_651 rfl
theorem eL_law_652 : SiZ nL_law 652 (i_push (.int 1) 653) := s_iconst dL_law_652 (by decide)
theorem eL_law_653 : SiZ nL_law 653 (i_bin (fun x y => x + y) 654) := s_iadd dL_law_653
theorem eL_law_654 : SiZ nL_law 654 (i_iald 58 655) := s_aldX dL_law_654
theorem eL_law_655 : SiZ nL_law 655 (i_aload 0 656) := s_aload_n dL_law_655 rfl
theorem eL_law_656 : SiZ nL_law 656 (i_iload 3 657) := s_iload_n dL_law_656 rfl
theorem eL_law_657 : SiZ nL_law 657 (i_push (.int 2) 658) := s_iconst dL_law_657 (by decide)
theorem eL_law_658 : SiZ nL_law 658 (i_bin (fun x y => x + y) 659) := s_iadd dL_law_658
theorem eL_law_659 : SiZ nL_law 659 (i_iald 58 660) := s_aldX dL_law_659
theorem eL_law_660 : ScZ nL_law 660 (c_V 2 663 4 1 (Mt mX0_fish 4)) := e_V (mi := nL_law) (mi' := nX0_fish) (len := 3) (fun h b as rest hk hl => cs_V (ci := 0) (mi := nL_law) (pc := 660) (y := yX0_fish) (idx := 78) dL_law_660 q935 q936 q937 rfl hk hyX0_fish (sigC q938) pnX0_fish hl) wdX0_fish zX0_fish (Nat.le_of_ble_eq_true rfl) (Nat.le_of_ble_eq_true rfl)
theorem eL_law_663 : SiZ nL_law 663 (i_aload 2 664) := s_aload_n dL_law_663 rfl
theorem eL_law_664 : SiZ nL_law 664 (i_aload 0 665) := s_aload_n dL_law_664 rfl
theorem eL_law_665 : SiZ nL_law 665 (i_iload 3 666) := s_iload_n dL_law_665 rfl
theorem eL_law_666 : SiZ nL_law 666 (i_push (.int 1) 667) := s_iconst dL_law_666 (by decide)
theorem eL_law_667 : SiZ nL_law 667 (i_bin (fun x y => x + y) 668) := s_iadd dL_law_667
theorem eL_law_668 : SiZ nL_law 668 (i_iald 58 669) := s_aldX dL_law_668
theorem eL_law_669 : SiZ nL_law 669 (i_aload 0 670) := s_aload_n dL_law_669 rfl
theorem eL_law_670 : SiZ nL_law 670 (i_iload 3 671) := s_iload_n dL_law_670 rfl
theorem eL_law_671 : SiZ nL_law 671 (i_push (.int 2) 672) := s_iconst dL_law_671 (by decide)
theorem eL_law_672 : SiZ nL_law 672 (i_bin (fun x y => x + y) 673) := s_iadd dL_law_672
theorem eL_law_673 : SiZ nL_law 673 (i_iald 58 674) := s_aldX dL_law_673
theorem eL_law_674 : ScZ nL_law 674 (c_V 2 677 3 9 (Mt mX9_fish 3)) := e_V (mi := nL_law) (mi' := nX9_fish) (len := 3) (fun h b as rest hk hl => cs_V (ci := 8) (mi := nL_law) (pc := 674) (y := yX9_fish) (idx := 81) dL_law_674 q1511 q1512 q1513 rfl hk hyX9_fish (sigC q1514) pnX9_fish hl) wdX9_fish zX9_fish (Nat.le_of_ble_eq_true rfl) (Nat.le_of_ble_eq_true rfl)
theorem eL_law_677 : SiZ nL_law 677 (i_icmp (fun x y => x = y) 1514 680) := s_icmp_eq dL_law_677 (by decide)
theorem eL_law_680 : SiZ nL_law 680 (i_push (.int 0) 681) := s_iconst dL_law_680 (by decide)
theorem eL_law_681 : SiZ nL_law 681 i_zret := s_zret dL_law_681 rfl
theorem eL_law_682 : SiZ nL_law 682 (i_aload 1 683) := s_aload_n dL_law_682 rfl
theorem eL_law_683 : SiZ nL_law 683 (i_aload 0 684) := s_aload_n dL_law_683 rfl
theorem eL_law_684 : SiZ nL_law 684 (i_iload 3 685) := s_iload_n dL_law_684 rfl
theorem eL_law_685 : SiZ nL_law 685 (i_push (.int 1) 686) := s_iconst dL_law_685 (by decide)
theorem eL_law_686 : SiZ nL_law 686 (i_bin (fun x y => x + y) 687) := s_iadd dL_law_686
theorem eL_law_687 : SiZ nL_law 687 (i_iald 58 688) := s_aldX dL_law_687
theorem eL_law_688 : ScZ nL_law 688 (c_V 1 691 2 1 (Mt mX0_stand 2)) := e_V (mi := nL_law) (mi' := nX0_stand) (len := 3) (fun h b as rest hk hl => cs_V (ci := 0) (mi := nL_law) (pc := 688) (y := yX0_stand) (idx := 82) dL_law_688 q952 q953 q954 rfl hk hyX0_stand (sigC q955) pnX0_stand hl) wdX0_stand zX0_stand (Nat.le_of_ble_eq_true rfl) (Nat.le_of_ble_eq_true rfl)
theorem eL_law_691 : SiZ nL_law 691 (i_aload 2 692) := s_aload_n dL_law_691 rfl
theorem eL_law_692 : SiZ nL_law 692 (i_aload 0 693) := s_aload_n dL_law_692 rfl
theorem eL_law_693 : SiZ nL_law 693 (i_iload 3 694) := s_iload_n dL_law_693 rfl
theorem eL_law_694 : SiZ nL_law 694 (i_push (.int 1) 695) := s_iconst dL_law_694 (by decide)
theorem eL_law_695 : SiZ nL_law 695 (i_bin (fun x y => x + y) 696) := s_iadd dL_law_695
theorem eL_law_696 : SiZ nL_law 696 (i_iald 58 697) := s_aldX dL_law_696
theorem eL_law_697 : ScZ nL_law 697 (c_V 1 700 2 9 (Mt mX9_stand 2)) := e_V (mi := nL_law) (mi' := nX9_stand) (len := 3) (fun h b as rest hk hl => cs_V (ci := 8) (mi := nL_law) (pc := 697) (y := yX9_stand) (idx := 85) dL_law_697 q1516 q1517 q1518 rfl hk hyX9_stand (sigC q1519) pnX9_stand hl) wdX9_stand zX9_stand (Nat.le_of_ble_eq_true rfl) (Nat.le_of_ble_eq_true rfl)
theorem eL_law_700 : SiZ nL_law 700 (i_icmp (fun x y => x = y) 1514 703) := s_icmp_eq dL_law_700 (by decide)
theorem eL_law_703 : SiZ nL_law 703 (i_push (.int 0) 704) := s_iconst dL_law_703 (by decide)
theorem eL_law_704 : SiZ nL_law 704 i_zret := s_zret dL_law_704 rfl
theorem eL_law_705 : SiZ nL_law 705 (i_aload 1 706) := s_aload_n dL_law_705 rfl
theorem eL_law_706 : SiZ nL_law 706 (i_aload 0 707) := s_aload_n dL_law_706 rfl
theorem eL_law_707 : SiZ nL_law 707 (i_iload 3 708) := s_iload_n dL_law_707 rfl
theorem eL_law_708 : SiZ nL_law 708 (i_push (.int 1) 709) := s_iconst dL_law_708 (by decide)
theorem eL_law_709 : SiZ nL_law 709 (i_bin (fun x y => x + y) 710) := s_iadd dL_law_709
theorem eL_law_710 : SiZ nL_law 710 (i_iald 58 711) := s_aldX dL_law_710
theorem eL_law_711 : SiZ nL_law 711 (i_aload 0 712) := s_aload_n dL_law_711 rfl
theorem eL_law_712 : SiZ nL_law 712 (i_iload 3 713) := s_iload_n dL_law_712 rfl
theorem eL_law_713 : SiZ nL_law 713 (i_push (.int 2) 714) := s_iconst dL_law_713 (by decide)
theorem eL_law_714 : SiZ nL_law 714 (i_bin (fun x y => x + y) 715) := s_iadd dL_law_714
theorem eL_law_715 : SiZ nL_law 715 (i_iald 58 716) := s_aldX dL_law_715
theorem eL_law_716 : SiZ nL_law 716 (i_aload 0 717) := s_aload_n dL_law_716 rfl
theorem eL_law_717 : SiZ nL_law 717 (i_iload 3 718) := s_iload_n dL_law_717 rfl
theorem eL_law_718 : SiZ nL_law 718 (i_push (.int 3) 719) := s_iconst dL_law_718 (by decide)
theorem eL_law_719 : SiZ nL_law 719 (i_bin (fun x y => x + y) 720) := s_iadd dL_law_719
theorem eL_law_720 : SiZ nL_law 720 (i_iald 58 721) := s_aldX dL_law_720
theorem eL_law_721 : ScZ nL_law 721 (c_V 3 724 4 1 (Mt mX0_ahead 4)) := e_V (mi := nL_law) (mi' := nX0_ahead) (len := 3) (fun h b as rest hk hl => cs_V (ci := 0) (mi := nL_law) (pc := 721) (y := yX0_ahead) (idx := 86) dL_law_721 q956 q957 q958 rfl hk hyX0_ahead (sigC q959) pnX0_ahead hl) wdX0_ahead zX0_ahead (Nat.le_of_ble_eq_true rfl) (Nat.le_of_ble_eq_true rfl)
theorem eL_law_724 : SiZ nL_law 724 (i_aload 2 725) := s_aload_n dL_law_724 rfl
theorem eL_law_725 : SiZ nL_law 725 (i_aload 0 726) := s_aload_n dL_law_725 rfl
theorem eL_law_726 : SiZ nL_law 726 (i_iload 3 727) := s_iload_n dL_law_726 rfl
theorem eL_law_727 : SiZ nL_law 727 (i_push (.int 1) 728) := s_iconst dL_law_727 (by decide)
theorem eL_law_728 : SiZ nL_law 728 (i_bin (fun x y => x + y) 729) := s_iadd dL_law_728
theorem eL_law_729 : SiZ nL_law 729 (i_iald 58 730) := s_aldX dL_law_729
theorem eL_law_730 : SiZ nL_law 730 (i_aload 0 731) := s_aload_n dL_law_730 rfl
theorem eL_law_731 : SiZ nL_law 731 (i_iload 3 732) := s_iload_n dL_law_731 rfl
theorem eL_law_732 : SiZ nL_law 732 (i_push (.int 2) 733) := s_iconst dL_law_732 (by decide)
theorem eL_law_733 : SiZ nL_law 733 (i_bin (fun x y => x + y) 734) := s_iadd dL_law_733
theorem eL_law_734 : SiZ nL_law 734 (i_iald 58 735) := s_aldX dL_law_734
theorem eL_law_735 : SiZ nL_law 735 (i_aload 0 736) := s_aload_n dL_law_735 rfl
theorem eL_law_736 : SiZ nL_law 736 (i_iload 3 737) := s_iload_n dL_law_736 rfl
theorem eL_law_737 : SiZ nL_law 737 (i_push (.int 3) 738) := s_iconst dL_law_737 (by decide)
theorem eL_law_738 : SiZ nL_law 738 (i_bin (fun x y => x + y) 739) := s_iadd dL_law_738
theorem eL_law_739 : SiZ nL_law 739 (i_iald 58 740) := s_aldX dL_law_739
theorem eL_law_740 : ScZ nL_law 740 (c_V 3 743 5 9 (Mt mX9_ahead 5)) := e_V (mi := nL_law) (mi' := nX9_ahead) (len := 3) (fun h b as rest hk hl => cs_V (ci := 8) (mi := nL_law) (pc := 740) (y := yX9_ahead) (idx := 89) dL_law_740 q1520 q1521 q1522 rfl hk hyX9_ahead (sigC q1523) pnX9_ahead hl) wdX9_ahead zX9_ahead (Nat.le_of_ble_eq_true rfl) (Nat.le_of_ble_eq_true rfl)
theorem eL_law_743 : SiZ nL_law 743 (i_icmp (fun x y => x = y) 1514 746) := s_icmp_eq dL_law_743 (by decide)
theorem eL_law_746 : SiZ nL_law 746 (i_push (.int 0) 747) := s_iconst dL_law_746 (by decide)
theorem eL_law_747 : SiZ nL_law 747 i_zret := s_zret dL_law_747 rfl
theorem eL_law_748 : SiZ nL_law 748 (i_aload 1 749) := s_aload_n dL_law_748 rfl
theorem eL_law_749 : SiZ nL_law 749 (i_aload 0 750) := s_aload_n dL_law_749 rfl
theorem eL_law_750 : SiZ nL_law 750 (i_iload 3 751) := s_iload_n dL_law_750 rfl
theorem eL_law_751 : SiZ nL_law 751 (i_push (.int 1) 752) := s_iconst dL_law_751 (by decide)
theorem eL_law_752 : SiZ nL_law 752 (i_bin (fun x y => x + y) 753) := s_iadd dL_law_752
theorem eL_law_753 : SiZ nL_law 753 (i_iald 58 754) := s_aldX dL_law_753
theorem eL_law_754 : SiZ nL_law 754 (i_aload 0 755) := s_aload_n dL_law_754 rfl
theorem eL_law_755 : SiZ nL_law 755 (i_iload 3 756) := s_iload_n dL_law_755 rfl
theorem eL_law_756 : SiZ nL_law 756 (i_push (.int 2) 757) := s_iconst dL_law_756 (by decide)
theorem eL_law_757 : SiZ nL_law 757 (i_bin (fun x y => x + y) 758) := s_iadd dL_law_757
theorem eL_law_758 : SiZ nL_law 758 (i_iald 58 759) := s_aldX dL_law_758
theorem eL_law_759 : SiZ nL_law 759 (i_aload 0 760) := s_aload_n dL_law_759 rfl
theorem eL_law_760 : SiZ nL_law 760 (i_iload 3 761) := s_iload_n dL_law_760 rfl
theorem eL_law_761 : SiZ nL_law 761 (i_push (.int 3) 762) := s_iconst dL_law_761 (by decide)
theorem eL_law_762 : SiZ nL_law 762 (i_bin (fun x y => x + y) 763) := s_iadd dL_law_762
theorem eL_law_763 : SiZ nL_law 763 (i_iald 58 764) := s_aldX dL_law_763
theorem eL_law_764 : ScZ nL_law 764 (c_V 3 767 4 1 (Mt mX0_later 4)) := e_V (mi := nL_law) (mi' := nX0_later) (len := 3) (fun h b as rest hk hl => cs_V (ci := 0) (mi := nL_law) (pc := 764) (y := yX0_later) (idx := 90) dL_law_764 q972 q973 q974 rfl hk hyX0_later (sigC q975) pnX0_later hl) wdX0_later zX0_later (Nat.le_of_ble_eq_true rfl) (Nat.le_of_ble_eq_true rfl)
theorem eL_law_767 : SiZ nL_law 767 (i_aload 2 768) := s_aload_n dL_law_767 rfl
theorem eL_law_768 : SiZ nL_law 768 (i_aload 0 769) := s_aload_n dL_law_768 rfl
theorem eL_law_769 : SiZ nL_law 769 (i_iload 3 770) := s_iload_n dL_law_769 rfl
theorem eL_law_770 : SiZ nL_law 770 (i_push (.int 1) 771) := s_iconst dL_law_770 (by decide)
theorem eL_law_771 : SiZ nL_law 771 (i_bin (fun x y => x + y) 772) := s_iadd dL_law_771
theorem eL_law_772 : SiZ nL_law 772 (i_iald 58 773) := s_aldX dL_law_772
theorem eL_law_773 : SiZ nL_law 773 (i_aload 0 774) := s_aload_n dL_law_773 rfl
theorem eL_law_774 : SiZ nL_law 774 (i_iload 3 775) := s_iload_n dL_law_774 rfl
theorem eL_law_775 : SiZ nL_law 775 (i_push (.int 2) 776) := s_iconst dL_law_775 (by decide)
theorem eL_law_776 : SiZ nL_law 776 (i_bin (fun x y => x + y) 777) := s_iadd dL_law_776
theorem eL_law_777 : SiZ nL_law 777 (i_iald 58 778) := s_aldX dL_law_777
theorem eL_law_778 : SiZ nL_law 778 (i_aload 0 779) := s_aload_n dL_law_778 rfl
theorem eL_law_779 : SiZ nL_law 779 (i_iload 3 780) := s_iload_n dL_law_779 rfl
theorem eL_law_780 : SiZ nL_law 780 (i_push (.int 3) 781) := s_iconst dL_law_780 (by decide)
theorem eL_law_781 : SiZ nL_law 781 (i_bin (fun x y => x + y) 782) := s_iadd dL_law_781
theorem eL_law_782 : SiZ nL_law 782 (i_iald 58 783) := s_aldX dL_law_782
theorem eL_law_783 : ScZ nL_law 783 (c_V 3 786 5 9 (Mt mX9_later 5)) := e_V (mi := nL_law) (mi' := nX9_later) (len := 3) (fun h b as rest hk hl => cs_V (ci := 8) (mi := nL_law) (pc := 783) (y := yX9_later) (idx := 93) dL_law_783 q1540 q1541 q1542 rfl hk hyX9_later (sigC q1543) pnX9_later hl) wdX9_later zX9_later (Nat.le_of_ble_eq_true rfl) (Nat.le_of_ble_eq_true rfl)
theorem eL_law_786 : SiZ nL_law 786 (i_icmp (fun x y => x = y) 1514 789) := s_icmp_eq dL_law_786 (by decide)
theorem eL_law_789 : SiZ nL_law 789 (i_push (.int 0) 790) := s_iconst dL_law_789 (by decide)
theorem eL_law_790 : SiZ nL_law 790 i_zret := s_zret dL_law_790 rfl
theorem eL_law_791 : SiZ nL_law 791 (i_aload 1 792) := s_aload_n dL_law_791 rfl
theorem eL_law_792 : SiZ nL_law 792 (i_aload 0 793) := s_aload_n dL_law_792 rfl
theorem eL_law_793 : SiZ nL_law 793 (i_iload 3 794) := s_iload_n dL_law_793 rfl
theorem eL_law_794 : SiZ nL_law 794 (i_push (.int 1) 795) := s_iconst dL_law_794 (by decide)
theorem eL_law_795 : SiZ nL_law 795 (i_bin (fun x y => x + y) 796) := s_iadd dL_law_795
theorem eL_law_796 : SiZ nL_law 796 (i_iald 58 797) := s_aldX dL_law_796
theorem eL_law_797 : ScZ nL_law 797 (c_V 1 800 3 1 (Mt mX0_when 3)) := e_V (mi := nL_law) (mi' := nX0_when) (len := 3) (fun h b as rest hk hl => cs_V (ci := 0) (mi := nL_law) (pc := 797) (y := yX0_when) (idx := 94) dL_law_797 q976 q977 q978 rfl hk hyX0_when (sigC q979) pnX0_when hl) wdX0_when zX0_when (Nat.le_of_ble_eq_true rfl) (Nat.le_of_ble_eq_true rfl)
theorem eL_law_800 : SiZ nL_law 800 (i_aload 2 801) := s_aload_n dL_law_800 rfl
theorem eL_law_801 : SiZ nL_law 801 (i_aload 0 802) := s_aload_n dL_law_801 rfl
theorem eL_law_802 : SiZ nL_law 802 (i_iload 3 803) := s_iload_n dL_law_802 rfl
theorem eL_law_803 : SiZ nL_law 803 (i_push (.int 1) 804) := s_iconst dL_law_803 (by decide)
theorem eL_law_804 : SiZ nL_law 804 (i_bin (fun x y => x + y) 805) := s_iadd dL_law_804
theorem eL_law_805 : SiZ nL_law 805 (i_iald 58 806) := s_aldX dL_law_805
theorem eL_law_806 : ScZ nL_law 806 (c_V 1 809 4 9 (Mt mX9_when 4)) := e_V (mi := nL_law) (mi' := nX9_when) (len := 3) (fun h b as rest hk hl => cs_V (ci := 8) (mi := nL_law) (pc := 806) (y := yX9_when) (idx := 97) dL_law_806 q1544 q1545 q1546 rfl hk hyX9_when (sigC q1547) pnX9_when hl) wdX9_when zX9_when (Nat.le_of_ble_eq_true rfl) (Nat.le_of_ble_eq_true rfl)
theorem eL_law_809 : SiZ nL_law 809 (i_icmp (fun x y => x = y) 1514 812) := s_icmp_eq dL_law_809 (by decide)
theorem eL_law_812 : SiZ nL_law 812 (i_push (.int 0) 813) := s_iconst dL_law_812 (by decide)
theorem eL_law_813 : SiZ nL_law 813 i_zret := s_zret dL_law_813 rfl
theorem eL_law_814 : SiZ nL_law 814 (i_aload 1 815) := s_aload_n dL_law_814 rfl
theorem eL_law_815 : SiZ nL_law 815 (i_aload 0 816) := s_aload_n dL_law_815 rfl
theorem eL_law_816 : SiZ nL_law 816 (i_iload 3 817) := s_iload_n dL_law_816 rfl
theorem eL_law_817 : SiZ nL_law 817 (i_push (.int 1) 818) := s_iconst dL_law_817 (by decide)
theorem eL_law_818 : SiZ nL_law 818 (i_bin (fun x y => x + y) 819) := s_iadd dL_law_818
theorem eL_law_819 : SiZ nL_law 819 (i_iald 58 820) := s_aldX dL_law_819
theorem eL_law_820 : ScZ nL_law 820 (c_V 1 823 4 1 (Mt mX0_first 4)) := e_V (mi := nL_law) (mi' := nX0_first) (len := 3) (fun h b as rest hk hl => cs_V (ci := 0) (mi := nL_law) (pc := 820) (y := yX0_first) (idx := 98) dL_law_820 q980 q981 q982 rfl hk hyX0_first (sigC q983) pnX0_first hl) wdX0_first zX0_first (Nat.le_of_ble_eq_true rfl) (Nat.le_of_ble_eq_true rfl)
theorem eL_law_823 : SiZ nL_law 823 (i_aload 2 824) := s_aload_n dL_law_823 rfl
theorem eL_law_824 : SiZ nL_law 824 (i_aload 0 825) := s_aload_n dL_law_824 rfl
theorem eL_law_825 : SiZ nL_law 825 (i_iload 3 826) := s_iload_n dL_law_825 rfl
theorem eL_law_826 : SiZ nL_law 826 (i_push (.int 1) 827) := s_iconst dL_law_826 (by decide)
theorem eL_law_827 : SiZ nL_law 827 (i_bin (fun x y => x + y) 828) := s_iadd dL_law_827
theorem eL_law_828 : SiZ nL_law 828 (i_iald 58 829) := s_aldX dL_law_828
theorem eL_law_829 : ScZ nL_law 829 (c_V 1 832 5 9 (Mt mX9_first 5)) := e_V (mi := nL_law) (mi' := nX9_first) (len := 3) (fun h b as rest hk hl => cs_V (ci := 8) (mi := nL_law) (pc := 829) (y := yX9_first) (idx := 101) dL_law_829 q1548 q1549 q1550 rfl hk hyX9_first (sigC q1551) pnX9_first hl) wdX9_first zX9_first (Nat.le_of_ble_eq_true rfl) (Nat.le_of_ble_eq_true rfl)
theorem eL_law_832 : SiZ nL_law 832 (i_icmp (fun x y => x = y) 1514 835) := s_icmp_eq dL_law_832 (by decide)
theorem eL_law_835 : SiZ nL_law 835 (i_push (.int 0) 836) := s_iconst dL_law_835 (by decide)
theorem eL_law_836 : SiZ nL_law 836 i_zret := s_zret dL_law_836 rfl
theorem eL_law_837 : SiZ nL_law 837 (i_aload 1 838) := s_aload_n dL_law_837 rfl
theorem eL_law_838 : SiZ nL_law 838 (i_aload 0 839) := s_aload_n dL_law_838 rfl
theorem eL_law_839 : SiZ nL_law 839 (i_iload 3 840) := s_iload_n dL_law_839 rfl
theorem eL_law_840 : SiZ nL_law 840 (i_push (.int 1) 841) := s_iconst dL_law_840 (by decide)
theorem eL_law_841 : SiZ nL_law 841 (i_bin (fun x y => x + y) 842) := s_iadd dL_law_841
theorem eL_law_842 : SiZ nL_law 842 (i_iald 58 843) := s_aldX dL_law_842
theorem eL_law_843 : SiZ nL_law 843 (i_aload 0 844) := s_aload_n dL_law_843 rfl
theorem eL_law_844 : SiZ nL_law 844 (i_iload 3 845) := s_iload_n dL_law_844 rfl
theorem eL_law_845 : SiZ nL_law 845 (i_push (.int 2) 846) := s_iconst dL_law_845 (by decide)
theorem eL_law_846 : SiZ nL_law 846 (i_bin (fun x y => x + y) 847) := s_iadd dL_law_846
theorem eL_law_847 : SiZ nL_law 847 (i_iald 58 848) := s_aldX dL_law_847
theorem eL_law_848 : ScZ nL_law 848 (c_V 2 851 6 1 (Mt mX0_hole 6)) := e_V (mi := nL_law) (mi' := nX0_hole) (len := 3) (fun h b as rest hk hl => cs_V (ci := 0) (mi := nL_law) (pc := 848) (y := yX0_hole) (idx := 102) dL_law_848 q992 q993 q994 rfl hk hyX0_hole (sigC q995) pnX0_hole hl) wdX0_hole zX0_hole (Nat.le_of_ble_eq_true rfl) (Nat.le_of_ble_eq_true rfl)
theorem eL_law_851 : SiZ nL_law 851 (i_aload 2 852) := s_aload_n dL_law_851 rfl
theorem eL_law_852 : SiZ nL_law 852 (i_aload 0 853) := s_aload_n dL_law_852 rfl
theorem eL_law_853 : SiZ nL_law 853 (i_iload 3 854) := s_iload_n dL_law_853 rfl
theorem eL_law_854 : SiZ nL_law 854 (i_push (.int 1) 855) := s_iconst dL_law_854 (by decide)
theorem eL_law_855 : SiZ nL_law 855 (i_bin (fun x y => x + y) 856) := s_iadd dL_law_855
theorem eL_law_856 : SiZ nL_law 856 (i_iald 58 857) := s_aldX dL_law_856
theorem eL_law_857 : SiZ nL_law 857 (i_aload 0 858) := s_aload_n dL_law_857 rfl
theorem eL_law_858 : SiZ nL_law 858 (i_iload 3 859) := s_iload_n dL_law_858 rfl
theorem eL_law_859 : SiZ nL_law 859 (i_push (.int 2) 860) := s_iconst dL_law_859 (by decide)
theorem eL_law_860 : SiZ nL_law 860 (i_bin (fun x y => x + y) 861) := s_iadd dL_law_860
theorem eL_law_861 : SiZ nL_law 861 (i_iald 58 862) := s_aldX dL_law_861
theorem eL_law_862 : ScZ nL_law 862 (c_V 2 865 3 9 (Mt mX9_hole 3)) := e_V (mi := nL_law) (mi' := nX9_hole) (len := 3) (fun h b as rest hk hl => cs_V (ci := 8) (mi := nL_law) (pc := 862) (y := yX9_hole) (idx := 105) dL_law_862 q1559 q1560 q1561 rfl hk hyX9_hole (sigC q1562) pnX9_hole hl) wdX9_hole zX9_hole (Nat.le_of_ble_eq_true rfl) (Nat.le_of_ble_eq_true rfl)
theorem eL_law_865 : SiZ nL_law 865 (i_icmp (fun x y => x = y) 1514 868) := s_icmp_eq dL_law_865 (by decide)
theorem eL_law_868 : SiZ nL_law 868 (i_push (.int 0) 869) := s_iconst dL_law_868 (by decide)
theorem eL_law_869 : SiZ nL_law 869 i_zret := s_zret dL_law_869 rfl
theorem eL_law_870 : SiZ nL_law 870 (i_aload 1 871) := s_aload_n dL_law_870 rfl
theorem eL_law_871 : SiZ nL_law 871 (i_aload 0 872) := s_aload_n dL_law_871 rfl
theorem eL_law_872 : SiZ nL_law 872 (i_iload 3 873) := s_iload_n dL_law_872 rfl
theorem eL_law_873 : SiZ nL_law 873 (i_push (.int 1) 874) := s_iconst dL_law_873 (by decide)
theorem eL_law_874 : SiZ nL_law 874 (i_bin (fun x y => x + y) 875) := s_iadd dL_law_874
theorem eL_law_875 : SiZ nL_law 875 (i_iald 58 876) := s_aldX dL_law_875
theorem eL_law_876 : SiZ nL_law 876 (i_aload 0 877) := s_aload_n dL_law_876 rfl
theorem eL_law_877 : SiZ nL_law 877 (i_iload 3 878) := s_iload_n dL_law_877 rfl
theorem eL_law_878 : SiZ nL_law 878 (i_push (.int 2) 879) := s_iconst dL_law_878 (by decide)
theorem eL_law_879 : SiZ nL_law 879 (i_bin (fun x y => x + y) 880) := s_iadd dL_law_879
theorem eL_law_880 : SiZ nL_law 880 (i_iald 58 881) := s_aldX dL_law_880
theorem eL_law_881 : SiZ nL_law 881 (i_aload 0 882) := s_aload_n dL_law_881 rfl
theorem eL_law_882 : SiZ nL_law 882 (i_iload 3 883) := s_iload_n dL_law_882 rfl
theorem eL_law_883 : SiZ nL_law 883 (i_push (.int 3) 884) := s_iconst dL_law_883 (by decide)
theorem eL_law_884 : SiZ nL_law 884 (i_bin (fun x y => x + y) 885) := s_iadd dL_law_884
theorem eL_law_885 : SiZ nL_law 885 (i_iald 58 886) := s_aldX dL_law_885
theorem eL_law_886 : ScZ nL_law 886 (c_V 3 889 4 1 (Mt mX0_order 4)) := e_V (mi := nL_law) (mi' := nX0_order) (len := 3) (fun h b as rest hk hl => cs_V (ci := 0) (mi := nL_law) (pc := 886) (y := yX0_order) (idx := 106) dL_law_886 q996 q997 q998 rfl hk hyX0_order (sigC q999) pnX0_order hl) wdX0_order zX0_order (Nat.le_of_ble_eq_true rfl) (Nat.le_of_ble_eq_true rfl)
theorem eL_law_889 : SiZ nL_law 889 (i_aload 2 890) := s_aload_n dL_law_889 rfl
theorem eL_law_890 : SiZ nL_law 890 (i_aload 0 891) := s_aload_n dL_law_890 rfl
theorem eL_law_891 : SiZ nL_law 891 (i_iload 3 892) := s_iload_n dL_law_891 rfl
theorem eL_law_892 : SiZ nL_law 892 (i_push (.int 1) 893) := s_iconst dL_law_892 (by decide)
theorem eL_law_893 : SiZ nL_law 893 (i_bin (fun x y => x + y) 894) := s_iadd dL_law_893
theorem eL_law_894 : SiZ nL_law 894 (i_iald 58 895) := s_aldX dL_law_894
theorem eL_law_895 : SiZ nL_law 895 (i_aload 0 896) := s_aload_n dL_law_895 rfl
theorem eL_law_896 : SiZ nL_law 896 (i_iload 3 897) := s_iload_n dL_law_896 rfl
theorem eL_law_897 : SiZ nL_law 897 (i_push (.int 2) 898) := s_iconst dL_law_897 (by decide)
theorem eL_law_898 : SiZ nL_law 898 (i_bin (fun x y => x + y) 899) := s_iadd dL_law_898
theorem eL_law_899 : SiZ nL_law 899 (i_iald 58 900) := s_aldX dL_law_899
theorem eL_law_900 : SiZ nL_law 900 (i_aload 0 901) := s_aload_n dL_law_900 rfl
theorem eL_law_901 : SiZ nL_law 901 (i_iload 3 902) := s_iload_n dL_law_901 rfl
theorem eL_law_902 : SiZ nL_law 902 (i_push (.int 3) 903) := s_iconst dL_law_902 (by decide)
theorem eL_law_903 : SiZ nL_law 903 (i_bin (fun x y => x + y) 904) := s_iadd dL_law_903
theorem eL_law_904 : SiZ nL_law 904 (i_iald 58 905) := s_aldX dL_law_904
theorem eL_law_905 : ScZ nL_law 905 (c_V 3 908 8 9 (Mt mX9_order 8)) := e_V (mi := nL_law) (mi' := nX9_order) (len := 3) (fun h b as rest hk hl => cs_V (ci := 8) (mi := nL_law) (pc := 905) (y := yX9_order) (idx := 109) dL_law_905 q1563 q1564 q1565 rfl hk hyX9_order (sigC q1566) pnX9_order hl) wdX9_order zX9_order (Nat.le_of_ble_eq_true rfl) (Nat.le_of_ble_eq_true rfl)
theorem eL_law_908 : SiZ nL_law 908 (i_icmp (fun x y => x = y) 1514 911) := s_icmp_eq dL_law_908 (by decide)
theorem eL_law_911 : SiZ nL_law 911 (i_push (.int 0) 912) := s_iconst dL_law_911 (by decide)
theorem eL_law_912 : SiZ nL_law 912 i_zret := s_zret dL_law_912 rfl
theorem eL_law_913 : SiZ nL_law 913 (i_aload 1 914) := s_aload_n dL_law_913 rfl
theorem eL_law_914 : SiZ nL_law 914 (i_aload 0 915) := s_aload_n dL_law_914 rfl
theorem eL_law_915 : SiZ nL_law 915 (i_iload 3 916) := s_iload_n dL_law_915 rfl
theorem eL_law_916 : SiZ nL_law 916 (i_push (.int 1) 917) := s_iconst dL_law_916 (by decide)
theorem eL_law_917 : SiZ nL_law 917 (i_bin (fun x y => x + y) 918) := s_iadd dL_law_917
theorem eL_law_918 : SiZ nL_law 918 (i_iald 58 919) := s_aldX dL_law_918
theorem eL_law_919 : SiZ nL_law 919 (i_aload 0 920) := s_aload_n dL_law_919 rfl
theorem eL_law_920 : SiZ nL_law 920 (i_iload 3 921) := s_iload_n dL_law_920 rfl
theorem eL_law_921 : SiZ nL_law 921 (i_push (.int 2) 922) := s_iconst dL_law_921 (by decide)
theorem eL_law_922 : SiZ nL_law 922 (i_bin (fun x y => x + y) 923) := s_iadd dL_law_922
theorem eL_law_923 : SiZ nL_law 923 (i_iald 58 924) := s_aldX dL_law_923
theorem eL_law_924 : SiZ nL_law 924 (i_aload 0 925) := s_aload_n dL_law_924 rfl
theorem eL_law_925 : SiZ nL_law 925 (i_iload 3 926) := s_iload_n dL_law_925 rfl
theorem eL_law_926 : SiZ nL_law 926 (i_push (.int 3) 927) := s_iconst dL_law_926 (by decide)
theorem eL_law_927 : SiZ nL_law 927 (i_bin (fun x y => x + y) 928) := s_iadd dL_law_927
theorem eL_law_928 : SiZ nL_law 928 (i_iald 58 929) := s_aldX dL_law_928
theorem eL_law_929 : ScZ nL_law 929 (c_V 3 932 8 1 (Mt mX0_lamp 8)) := e_V (mi := nL_law) (mi' := nX0_lamp) (len := 3) (fun h b as rest hk hl => cs_V (ci := 0) (mi := nL_law) (pc := 929) (y := yX0_lamp) (idx := 110) dL_law_929 q1016 q1017 q1018 rfl hk hyX0_lamp (sigC q1019) pnX0_lamp hl) wdX0_lamp zX0_lamp (Nat.le_of_ble_eq_true rfl) (Nat.le_of_ble_eq_true rfl)
theorem eL_law_932 : SiZ nL_law 932 (i_aload 2 933) := s_aload_n dL_law_932 rfl
theorem eL_law_933 : SiZ nL_law 933 (i_aload 0 934) := s_aload_n dL_law_933 rfl
theorem eL_law_934 : SiZ nL_law 934 (i_iload 3 935) := s_iload_n dL_law_934 rfl
theorem eL_law_935 : SiZ nL_law 935 (i_push (.int 1) 936) := s_iconst dL_law_935 (by decide)
theorem eL_law_936 : SiZ nL_law 936 (i_bin (fun x y => x + y) 937) := s_iadd dL_law_936
theorem eL_law_937 : SiZ nL_law 937 (i_iald 58 938) := s_aldX dL_law_937
theorem eL_law_938 : SiZ nL_law 938 (i_aload 0 939) := s_aload_n dL_law_938 rfl
theorem eL_law_939 : SiZ nL_law 939 (i_iload 3 940) := s_iload_n dL_law_939 rfl
theorem eL_law_940 : SiZ nL_law 940 (i_push (.int 2) 941) := s_iconst dL_law_940 (by decide)
theorem eL_law_941 : SiZ nL_law 941 (i_bin (fun x y => x + y) 942) := s_iadd dL_law_941
theorem eL_law_942 : SiZ nL_law 942 (i_iald 58 943) := s_aldX dL_law_942
theorem eL_law_943 : SiZ nL_law 943 (i_aload 0 944) := s_aload_n dL_law_943 rfl
theorem eL_law_944 : SiZ nL_law 944 (i_iload 3 945) := s_iload_n dL_law_944 rfl
theorem eL_law_945 : SiZ nL_law 945 (i_push (.int 3) 946) := s_iconst dL_law_945 (by decide)
theorem eL_law_946 : SiZ nL_law 946 (i_bin (fun x y => x + y) 947) := s_iadd dL_law_946
theorem eL_law_947 : SiZ nL_law 947 (i_iald 58 948) := s_aldX dL_law_947
theorem eL_law_948 : ScZ nL_law 948 (c_V 3 951 8 9 (Mt mX9_lamp 8)) := e_V (mi := nL_law) (mi' := nX9_lamp) (len := 3) (fun h b as rest hk hl => cs_V (ci := 8) (mi := nL_law) (pc := 948) (y := yX9_lamp) (idx := 113) dL_law_948 q1581 q1582 q1583 rfl hk hyX9_lamp (sigC q1584) pnX9_lamp hl) wdX9_lamp zX9_lamp (Nat.le_of_ble_eq_true rfl) (Nat.le_of_ble_eq_true rfl)
theorem eL_law_951 : SiZ nL_law 951 (i_icmp (fun x y => x = y) 1514 954) := s_icmp_eq dL_law_951 (by decide)
theorem eL_law_954 : SiZ nL_law 954 (i_push (.int 0) 955) := s_iconst dL_law_954 (by decide)
theorem eL_law_955 : SiZ nL_law 955 i_zret := s_zret dL_law_955 rfl
theorem eL_law_956 : SiZ nL_law 956 (i_aload 1 957) := s_aload_n dL_law_956 rfl
theorem eL_law_957 : SiZ nL_law 957 (i_aload 0 958) := s_aload_n dL_law_957 rfl
theorem eL_law_958 : SiZ nL_law 958 (i_iload 3 959) := s_iload_n dL_law_958 rfl
theorem eL_law_959 : SiZ nL_law 959 (i_push (.int 1) 960) := s_iconst dL_law_959 (by decide)
theorem eL_law_960 : SiZ nL_law 960 (i_bin (fun x y => x + y) 961) := s_iadd dL_law_960
theorem eL_law_961 : SiZ nL_law 961 (i_iald 58 962) := s_aldX dL_law_961
theorem eL_law_962 : SiZ nL_law 962 (i_aload 0 963) := s_aload_n dL_law_962 rfl
theorem eL_law_963 : SiZ nL_law 963 (i_iload 3 964) := s_iload_n dL_law_963 rfl
theorem eL_law_964 : SiZ nL_law 964 (i_push (.int 2) 965) := s_iconst dL_law_964 (by decide)
theorem eL_law_965 : SiZ nL_law 965 (i_bin (fun x y => x + y) 966) := s_iadd dL_law_965
theorem eL_law_966 : SiZ nL_law 966 (i_iald 58 967) := s_aldX dL_law_966
theorem eL_law_967 : SiZ nL_law 967 (i_aload 0 968) := s_aload_n dL_law_967 rfl
theorem eL_law_968 : SiZ nL_law 968 (i_iload 3 969) := s_iload_n dL_law_968 rfl
theorem eL_law_969 : SiZ nL_law 969 (i_push (.int 3) 970) := s_iconst dL_law_969 (by decide)
theorem eL_law_970 : SiZ nL_law 970 (i_bin (fun x y => x + y) 971) := s_iadd dL_law_970
theorem eL_law_971 : SiZ nL_law 971 (i_iald 58 972) := s_aldX dL_law_971
theorem eL_law_972 : ScZ nL_law 972 (c_V 3 975 6 1 (Mt mX0_caught 6)) := e_V (mi := nL_law) (mi' := nX0_caught) (len := 3) (fun h b as rest hk hl => cs_V (ci := 0) (mi := nL_law) (pc := 972) (y := yX0_caught) (idx := 114) dL_law_972 q1023 q1024 q1025 rfl hk hyX0_caught (sigC q1026) pnX0_caught hl) wdX0_caught zX0_caught (Nat.le_of_ble_eq_true rfl) (Nat.le_of_ble_eq_true rfl)
theorem eL_law_975 : SiZ nL_law 975 (i_aload 2 976) := s_aload_n dL_law_975 rfl
theorem eL_law_976 : SiZ nL_law 976 (i_aload 0 977) := s_aload_n dL_law_976 rfl
theorem eL_law_977 : SiZ nL_law 977 (i_iload 3 978) := s_iload_n dL_law_977 rfl
theorem eL_law_978 : SiZ nL_law 978 (i_push (.int 1) 979) := s_iconst dL_law_978 (by decide)
theorem eL_law_979 : SiZ nL_law 979 (i_bin (fun x y => x + y) 980) := s_iadd dL_law_979
theorem eL_law_980 : SiZ nL_law 980 (i_iald 58 981) := s_aldX dL_law_980
theorem eL_law_981 : SiZ nL_law 981 (i_aload 0 982) := s_aload_n dL_law_981 rfl
theorem eL_law_982 : SiZ nL_law 982 (i_iload 3 983) := s_iload_n dL_law_982 rfl
theorem eL_law_983 : SiZ nL_law 983 (i_push (.int 2) 984) := s_iconst dL_law_983 (by decide)
theorem eL_law_984 : SiZ nL_law 984 (i_bin (fun x y => x + y) 985) := s_iadd dL_law_984
theorem eL_law_985 : SiZ nL_law 985 (i_iald 58 986) := s_aldX dL_law_985
theorem eL_law_986 : SiZ nL_law 986 (i_aload 0 987) := s_aload_n dL_law_986 rfl
theorem eL_law_987 : SiZ nL_law 987 (i_iload 3 988) := s_iload_n dL_law_987 rfl
theorem eL_law_988 : SiZ nL_law 988 (i_push (.int 3) 989) := s_iconst dL_law_988 (by decide)
theorem eL_law_989 : SiZ nL_law 989 (i_bin (fun x y => x + y) 990) := s_iadd dL_law_989
theorem eL_law_990 : SiZ nL_law 990 (i_iald 58 991) := s_aldX dL_law_990
theorem eL_law_991 : ScZ nL_law 991 (c_V 3 994 6 9 (Mt mX9_caught 6)) := e_V (mi := nL_law) (mi' := nX9_caught) (len := 3) (fun h b as rest hk hl => cs_V (ci := 8) (mi := nL_law) (pc := 991) (y := yX9_caught) (idx := 117) dL_law_991 q1589 q1590 q1591 rfl hk hyX9_caught (sigC q1592) pnX9_caught hl) wdX9_caught zX9_caught (Nat.le_of_ble_eq_true rfl) (Nat.le_of_ble_eq_true rfl)
theorem eL_law_994 : SiZ nL_law 994 (i_icmp (fun x y => x = y) 1514 997) := s_icmp_eq dL_law_994 (by decide)
theorem eL_law_997 : SiZ nL_law 997 (i_push (.int 0) 998) := s_iconst dL_law_997 (by decide)
theorem eL_law_998 : SiZ nL_law 998 i_zret := s_zret dL_law_998 rfl
theorem eL_law_999 : SiZ nL_law 999 (i_aload 1 1000) := s_aload_n dL_law_999 rfl
theorem eL_law_1000 : SiZ nL_law 1000 (i_aload 0 1001) := s_aload_n dL_law_1000 rfl
theorem eL_law_1001 : SiZ nL_law 1001 (i_iload 3 1002) := s_iload_n dL_law_1001 rfl
theorem eL_law_1002 : SiZ nL_law 1002 (i_push (.int 1) 1003) := s_iconst dL_law_1002 (by decide)
theorem eL_law_1003 : SiZ nL_law 1003 (i_bin (fun x y => x + y) 1004) := s_iadd dL_law_1003
theorem eL_law_1004 : SiZ nL_law 1004 (i_iald 58 1005) := s_aldX dL_law_1004
theorem eL_law_1005 : SiZ nL_law 1005 (i_aload 0 1006) := s_aload_n dL_law_1005 rfl
theorem eL_law_1006 : SiZ nL_law 1006 (i_iload 3 1007) := s_iload_n dL_law_1006 rfl
theorem eL_law_1007 : SiZ nL_law 1007 (i_push (.int 2) 1008) := s_iconst dL_law_1007 (by decide)
theorem eL_law_1008 : SiZ nL_law 1008 (i_bin (fun x y => x + y) 1009) := s_iadd dL_law_1008
theorem eL_law_1009 : SiZ nL_law 1009 (i_iald 58 1010) := s_aldX dL_law_1009
theorem eL_law_1010 : ScZ nL_law 1010 (c_V 2 1013 7 1 (Mt mX0_grams 7)) := e_V (mi := nL_law) (mi' := nX0_grams) (len := 3) (fun h b as rest hk hl => cs_V (ci := 0) (mi := nL_law) (pc := 1010) (y := yX0_grams) (idx := 118) dL_law_1010 q1027 q1028 q1029 rfl hk hyX0_grams (sigC q1030) pnX0_grams hl) wdX0_grams zX0_grams (Nat.le_of_ble_eq_true rfl) (Nat.le_of_ble_eq_true rfl)
theorem eL_law_1013 : SiZ nL_law 1013 (i_aload 2 1014) := s_aload_n dL_law_1013 rfl
theorem eL_law_1014 : SiZ nL_law 1014 (i_aload 0 1015) := s_aload_n dL_law_1014 rfl
theorem eL_law_1015 : SiZ nL_law 1015 (i_iload 3 1016) := s_iload_n dL_law_1015 rfl
theorem eL_law_1016 : SiZ nL_law 1016 (i_push (.int 1) 1017) := s_iconst dL_law_1016 (by decide)
theorem eL_law_1017 : SiZ nL_law 1017 (i_bin (fun x y => x + y) 1018) := s_iadd dL_law_1017
theorem eL_law_1018 : SiZ nL_law 1018 (i_iald 58 1019) := s_aldX dL_law_1018
theorem eL_law_1019 : SiZ nL_law 1019 (i_aload 0 1020) := s_aload_n dL_law_1019 rfl
theorem eL_law_1020 : SiZ nL_law 1020 (i_iload 3 1021) := s_iload_n dL_law_1020 rfl
theorem eL_law_1021 : SiZ nL_law 1021 (i_push (.int 2) 1022) := s_iconst dL_law_1021 (by decide)
theorem eL_law_1022 : SiZ nL_law 1022 (i_bin (fun x y => x + y) 1023) := s_iadd dL_law_1022
theorem eL_law_1023 : SiZ nL_law 1023 (i_iald 58 1024) := s_aldX dL_law_1023
theorem eL_law_1024 : ScZ nL_law 1024 (c_V 2 1027 7 9 (Mt mX9_grams 7)) := e_V (mi := nL_law) (mi' := nX9_grams) (len := 3) (fun h b as rest hk hl => cs_V (ci := 8) (mi := nL_law) (pc := 1024) (y := yX9_grams) (idx := 121) dL_law_1024 q1593 q1594 q1595 rfl hk hyX9_grams (sigC q1596) pnX9_grams hl) wdX9_grams zX9_grams (Nat.le_of_ble_eq_true rfl) (Nat.le_of_ble_eq_true rfl)
theorem eL_law_1027 : SiZ nL_law 1027 (i_icmp (fun x y => x = y) 1514 1030) := s_icmp_eq dL_law_1027 (by decide)
theorem eL_law_1030 : SiZ nL_law 1030 (i_push (.int 0) 1031) := s_iconst dL_law_1030 (by decide)
theorem eL_law_1031 : SiZ nL_law 1031 i_zret := s_zret dL_law_1031 rfl
theorem eL_law_1032 : SiZ nL_law 1032 (i_aload 1 1033) := s_aload_n dL_law_1032 rfl
theorem eL_law_1033 : SiZ nL_law 1033 (i_aload 0 1034) := s_aload_n dL_law_1033 rfl
theorem eL_law_1034 : SiZ nL_law 1034 (i_iload 3 1035) := s_iload_n dL_law_1034 rfl
theorem eL_law_1035 : SiZ nL_law 1035 (i_push (.int 1) 1036) := s_iconst dL_law_1035 (by decide)
theorem eL_law_1036 : SiZ nL_law 1036 (i_bin (fun x y => x + y) 1037) := s_iadd dL_law_1036
theorem eL_law_1037 : SiZ nL_law 1037 (i_iald 58 1038) := s_aldX dL_law_1037
theorem eL_law_1038 : SiZ nL_law 1038 (i_aload 0 1039) := s_aload_n dL_law_1038 rfl
theorem eL_law_1039 : SiZ nL_law 1039 (i_iload 3 1040) := s_iload_n dL_law_1039 rfl
theorem eL_law_1040 : SiZ nL_law 1040 (i_push (.int 2) 1041) := s_iconst dL_law_1040 (by decide)
theorem eL_law_1041 : SiZ nL_law 1041 (i_bin (fun x y => x + y) 1042) := s_iadd dL_law_1041
theorem eL_law_1042 : SiZ nL_law 1042 (i_iald 58 1043) := s_aldX dL_law_1042
theorem eL_law_1043 : SiZ nL_law 1043 (i_aload 0 1044) := s_aload_n dL_law_1043 rfl
theorem eL_law_1044 : SiZ nL_law 1044 (i_iload 3 1045) := s_iload_n dL_law_1044 rfl
theorem eL_law_1045 : SiZ nL_law 1045 (i_push (.int 3) 1046) := s_iconst dL_law_1045 (by decide)
theorem eL_law_1046 : SiZ nL_law 1046 (i_bin (fun x y => x + y) 1047) := s_iadd dL_law_1046
theorem eL_law_1047 : SiZ nL_law 1047 (i_iald 58 1048) := s_aldX dL_law_1047
theorem eL_law_1048 : SiZ nL_law 1048 (i_aload 0 1049) := s_aload_n dL_law_1048 rfl
theorem eL_law_1049 : SiZ nL_law 1049 (i_iload 3 1050) := s_iload_n dL_law_1049 rfl
theorem eL_law_1050 : SiZ nL_law 1050 (i_push (.int 4) 1051) := s_iconst dL_law_1050 (by decide)
theorem eL_law_1051 : SiZ nL_law 1051 (i_bin (fun x y => x + y) 1052) := s_iadd dL_law_1051
theorem eL_law_1052 : SiZ nL_law 1052 (i_iald 58 1053) := s_aldX dL_law_1052
theorem eL_law_1053 : SiZ nL_law 1053 (i_aload 0 1054) := s_aload_n dL_law_1053 rfl
theorem eL_law_1054 : SiZ nL_law 1054 (i_iload 3 1055) := s_iload_n dL_law_1054 rfl
theorem eL_law_1055 : SiZ nL_law 1055 (i_push (.int 5) 1056) := s_iconst dL_law_1055 (by decide)
theorem eL_law_1056 : SiZ nL_law 1056 (i_bin (fun x y => x + y) 1057) := s_iadd dL_law_1056
theorem eL_law_1057 : SiZ nL_law 1057 (i_iald 58 1058) := s_aldX dL_law_1057
theorem eL_law_1058 : SiZ nL_law 1058 (i_aload 0 1059) := s_aload_n dL_law_1058 rfl
theorem eL_law_1059 : SiZ nL_law 1059 (i_iload 3 1060) := s_iload_n dL_law_1059 rfl
theorem eL_law_1060 : SiZ nL_law 1060 (i_push (.int 6) 1062) := s_bipush dL_law_1060 (by decide)
theorem eL_law_1062 : SiZ nL_law 1062 (i_bin (fun x y => x + y) 1063) := s_iadd dL_law_1062
theorem eL_law_1063 : SiZ nL_law 1063 (i_iald 58 1064) := s_aldX dL_law_1063
theorem eL_law_1064 : ScZ nL_law 1064 (c_V 6 1067 10 1 (Mt mX0_who 10)) := e_V (mi := nL_law) (mi' := nX0_who) (len := 3) (fun h b as rest hk hl => cs_V (ci := 0) (mi := nL_law) (pc := 1064) (y := yX0_who) (idx := 122) dL_law_1064 q1036 q1037 q1038 rfl hk hyX0_who (sigW q1039) pnX0_who hl) wdX0_who zX0_who (Nat.le_of_ble_eq_true rfl) (Nat.le_of_ble_eq_true rfl)
theorem eL_law_1067 : SiZ nL_law 1067 (i_aload 2 1068) := s_aload_n dL_law_1067 rfl
theorem eL_law_1068 : SiZ nL_law 1068 (i_aload 0 1069) := s_aload_n dL_law_1068 rfl
theorem eL_law_1069 : SiZ nL_law 1069 (i_iload 3 1070) := s_iload_n dL_law_1069 rfl
theorem eL_law_1070 : SiZ nL_law 1070 (i_push (.int 1) 1071) := s_iconst dL_law_1070 (by decide)
theorem eL_law_1071 : SiZ nL_law 1071 (i_bin (fun x y => x + y) 1072) := s_iadd dL_law_1071
theorem eL_law_1072 : SiZ nL_law 1072 (i_iald 58 1073) := s_aldX dL_law_1072
theorem eL_law_1073 : SiZ nL_law 1073 (i_aload 0 1074) := s_aload_n dL_law_1073 rfl
theorem eL_law_1074 : SiZ nL_law 1074 (i_iload 3 1075) := s_iload_n dL_law_1074 rfl
theorem eL_law_1075 : SiZ nL_law 1075 (i_push (.int 2) 1076) := s_iconst dL_law_1075 (by decide)
theorem eL_law_1076 : SiZ nL_law 1076 (i_bin (fun x y => x + y) 1077) := s_iadd dL_law_1076
theorem eL_law_1077 : SiZ nL_law 1077 (i_iald 58 1078) := s_aldX dL_law_1077
theorem eL_law_1078 : SiZ nL_law 1078 (i_aload 0 1079) := s_aload_n dL_law_1078 rfl
theorem eL_law_1079 : SiZ nL_law 1079 (i_iload 3 1080) := s_iload_n dL_law_1079 rfl
theorem eL_law_1080 : SiZ nL_law 1080 (i_push (.int 3) 1081) := s_iconst dL_law_1080 (by decide)
theorem eL_law_1081 : SiZ nL_law 1081 (i_bin (fun x y => x + y) 1082) := s_iadd dL_law_1081
theorem eL_law_1082 : SiZ nL_law 1082 (i_iald 58 1083) := s_aldX dL_law_1082
theorem eL_law_1083 : SiZ nL_law 1083 (i_aload 0 1084) := s_aload_n dL_law_1083 rfl
theorem eL_law_1084 : SiZ nL_law 1084 (i_iload 3 1085) := s_iload_n dL_law_1084 rfl
theorem eL_law_1085 : SiZ nL_law 1085 (i_push (.int 4) 1086) := s_iconst dL_law_1085 (by decide)
theorem eL_law_1086 : SiZ nL_law 1086 (i_bin (fun x y => x + y) 1087) := s_iadd dL_law_1086
theorem eL_law_1087 : SiZ nL_law 1087 (i_iald 58 1088) := s_aldX dL_law_1087
theorem eL_law_1088 : SiZ nL_law 1088 (i_aload 0 1089) := s_aload_n dL_law_1088 rfl
theorem eL_law_1089 : SiZ nL_law 1089 (i_iload 3 1090) := s_iload_n dL_law_1089 rfl
theorem eL_law_1090 : SiZ nL_law 1090 (i_push (.int 5) 1091) := s_iconst dL_law_1090 (by decide)
theorem eL_law_1091 : SiZ nL_law 1091 (i_bin (fun x y => x + y) 1092) := s_iadd dL_law_1091
theorem eL_law_1092 : SiZ nL_law 1092 (i_iald 58 1093) := s_aldX dL_law_1092
theorem eL_law_1093 : SiZ nL_law 1093 (i_aload 0 1094) := s_aload_n dL_law_1093 rfl
theorem eL_law_1094 : SiZ nL_law 1094 (i_iload 3 1095) := s_iload_n dL_law_1094 rfl
theorem eL_law_1095 : SiZ nL_law 1095 (i_push (.int 6) 1097) := s_bipush dL_law_1095 (by decide)
theorem eL_law_1097 : SiZ nL_law 1097 (i_bin (fun x y => x + y) 1098) := s_iadd dL_law_1097
theorem eL_law_1098 : SiZ nL_law 1098 (i_iald 58 1099) := s_aldX dL_law_1098
theorem eL_law_1099 : ScZ nL_law 1099 (c_V 6 1102 8 9 (Mt mX9_who 8)) := e_V (mi := nL_law) (mi' := nX9_who) (len := 3) (fun h b as rest hk hl => cs_V (ci := 8) (mi := nL_law) (pc := 1099) (y := yX9_who) (idx := 126) dL_law_1099 q1602 q1603 q1604 rfl hk hyX9_who (sigC q1605) pnX9_who hl) wdX9_who zX9_who (Nat.le_of_ble_eq_true rfl) (Nat.le_of_ble_eq_true rfl)
theorem eL_law_1102 : SiZ nL_law 1102 (i_icmp (fun x y => x = y) 1514 1105) := s_icmp_eq dL_law_1102 (by decide)
theorem eL_law_1105 : SiZ nL_law 1105 (i_push (.int 0) 1106) := s_iconst dL_law_1105 (by decide)
theorem eL_law_1106 : SiZ nL_law 1106 i_zret := s_zret dL_law_1106 rfl
theorem eL_law_1107 : SiZ nL_law 1107 (i_aload 1 1108) := s_aload_n dL_law_1107 rfl
theorem eL_law_1108 : SiZ nL_law 1108 (i_aload 0 1109) := s_aload_n dL_law_1108 rfl
theorem eL_law_1109 : SiZ nL_law 1109 (i_iload 3 1110) := s_iload_n dL_law_1109 rfl
theorem eL_law_1110 : SiZ nL_law 1110 (i_push (.int 1) 1111) := s_iconst dL_law_1110 (by decide)
theorem eL_law_1111 : SiZ nL_law 1111 (i_bin (fun x y => x + y) 1112) := s_iadd dL_law_1111
theorem eL_law_1112 : SiZ nL_law 1112 (i_iald 58 1113) := s_aldX dL_law_1112
theorem eL_law_1113 : SiZ nL_law 1113 (i_aload 0 1114) := s_aload_n dL_law_1113 rfl
theorem eL_law_1114 : SiZ nL_law 1114 (i_iload 3 1115) := s_iload_n dL_law_1114 rfl
theorem eL_law_1115 : SiZ nL_law 1115 (i_push (.int 2) 1116) := s_iconst dL_law_1115 (by decide)
theorem eL_law_1116 : SiZ nL_law 1116 (i_bin (fun x y => x + y) 1117) := s_iadd dL_law_1116
theorem eL_law_1117 : SiZ nL_law 1117 (i_iald 58 1118) := s_aldX dL_law_1117
theorem eL_law_1118 : SiZ nL_law 1118 (i_aload 0 1119) := s_aload_n dL_law_1118 rfl
theorem eL_law_1119 : SiZ nL_law 1119 (i_iload 3 1120) := s_iload_n dL_law_1119 rfl
theorem eL_law_1120 : SiZ nL_law 1120 (i_push (.int 3) 1121) := s_iconst dL_law_1120 (by decide)
theorem eL_law_1121 : SiZ nL_law 1121 (i_bin (fun x y => x + y) 1122) := s_iadd dL_law_1121
theorem eL_law_1122 : SiZ nL_law 1122 (i_iald 58 1123) := s_aldX dL_law_1122
theorem eL_law_1123 : SiZ nL_law 1123 (i_aload 0 1124) := s_aload_n dL_law_1123 rfl
theorem eL_law_1124 : SiZ nL_law 1124 (i_iload 3 1125) := s_iload_n dL_law_1124 rfl
theorem eL_law_1125 : SiZ nL_law 1125 (i_push (.int 4) 1126) := s_iconst dL_law_1125 (by decide)
theorem eL_law_1126 : SiZ nL_law 1126 (i_bin (fun x y => x + y) 1127) := s_iadd dL_law_1126
theorem eL_law_1127 : SiZ nL_law 1127 (i_iald 58 1128) := s_aldX dL_law_1127
theorem eL_law_1128 : SiZ nL_law 1128 (i_aload 0 1129) := s_aload_n dL_law_1128 rfl
theorem eL_law_1129 : SiZ nL_law 1129 (i_iload 3 1130) := s_iload_n dL_law_1129 rfl
theorem eL_law_1130 : SiZ nL_law 1130 (i_push (.int 5) 1131) := s_iconst dL_law_1130 (by decide)
theorem eL_law_1131 : SiZ nL_law 1131 (i_bin (fun x y => x + y) 1132) := s_iadd dL_law_1131
theorem eL_law_1132 : SiZ nL_law 1132 (i_iald 58 1133) := s_aldX dL_law_1132
theorem eL_law_1133 : ScZ nL_law 1133 (c_V 5 1136 9 1 (Mt mX0_paste 9)) := e_V (mi := nL_law) (mi' := nX0_paste) (len := 3) (fun h b as rest hk hl => cs_V (ci := 0) (mi := nL_law) (pc := 1133) (y := yX0_paste) (idx := 127) dL_law_1133 q1054 q1055 q1056 rfl hk hyX0_paste (sigW q1057) pnX0_paste hl) wdX0_paste zX0_paste (Nat.le_of_ble_eq_true rfl) (Nat.le_of_ble_eq_true rfl)
theorem eL_law_1136 : SiZ nL_law 1136 (i_aload 2 1137) := s_aload_n dL_law_1136 rfl
theorem eL_law_1137 : SiZ nL_law 1137 (i_aload 0 1138) := s_aload_n dL_law_1137 rfl
theorem eL_law_1138 : SiZ nL_law 1138 (i_iload 3 1139) := s_iload_n dL_law_1138 rfl
theorem eL_law_1139 : SiZ nL_law 1139 (i_push (.int 1) 1140) := s_iconst dL_law_1139 (by decide)
theorem eL_law_1140 : SiZ nL_law 1140 (i_bin (fun x y => x + y) 1141) := s_iadd dL_law_1140
theorem eL_law_1141 : SiZ nL_law 1141 (i_iald 58 1142) := s_aldX dL_law_1141
theorem eL_law_1142 : SiZ nL_law 1142 (i_aload 0 1143) := s_aload_n dL_law_1142 rfl
theorem eL_law_1143 : SiZ nL_law 1143 (i_iload 3 1144) := s_iload_n dL_law_1143 rfl
theorem eL_law_1144 : SiZ nL_law 1144 (i_push (.int 2) 1145) := s_iconst dL_law_1144 (by decide)
theorem eL_law_1145 : SiZ nL_law 1145 (i_bin (fun x y => x + y) 1146) := s_iadd dL_law_1145
theorem eL_law_1146 : SiZ nL_law 1146 (i_iald 58 1147) := s_aldX dL_law_1146
theorem eL_law_1147 : SiZ nL_law 1147 (i_aload 0 1148) := s_aload_n dL_law_1147 rfl
theorem eL_law_1148 : SiZ nL_law 1148 (i_iload 3 1149) := s_iload_n dL_law_1148 rfl
theorem eL_law_1149 : SiZ nL_law 1149 (i_push (.int 3) 1150) := s_iconst dL_law_1149 (by decide)
theorem eL_law_1150 : SiZ nL_law 1150 (i_bin (fun x y => x + y) 1151) := s_iadd dL_law_1150
theorem eL_law_1151 : SiZ nL_law 1151 (i_iald 58 1152) := s_aldX dL_law_1151
theorem eL_law_1152 : SiZ nL_law 1152 (i_aload 0 1153) := s_aload_n dL_law_1152 rfl
theorem eL_law_1153 : SiZ nL_law 1153 (i_iload 3 1154) := s_iload_n dL_law_1153 rfl
theorem eL_law_1154 : SiZ nL_law 1154 (i_push (.int 4) 1155) := s_iconst dL_law_1154 (by decide)
theorem eL_law_1155 : SiZ nL_law 1155 (i_bin (fun x y => x + y) 1156) := s_iadd dL_law_1155
theorem eL_law_1156 : SiZ nL_law 1156 (i_iald 58 1157) := s_aldX dL_law_1156
theorem eL_law_1157 : SiZ nL_law 1157 (i_aload 0 1158) := s_aload_n dL_law_1157 rfl
theorem eL_law_1158 : SiZ nL_law 1158 (i_iload 3 1159) := s_iload_n dL_law_1158 rfl
theorem eL_law_1159 : SiZ nL_law 1159 (i_push (.int 5) 1160) := s_iconst dL_law_1159 (by decide)
theorem eL_law_1160 : SiZ nL_law 1160 (i_bin (fun x y => x + y) 1161) := s_iadd dL_law_1160
theorem eL_law_1161 : SiZ nL_law 1161 (i_iald 58 1162) := s_aldX dL_law_1161
theorem eL_law_1162 : ScZ nL_law 1162 (c_V 5 1165 7 9 (Mt mX9_paste 7)) := e_V (mi := nL_law) (mi' := nX9_paste) (len := 3) (fun h b as rest hk hl => cs_V (ci := 8) (mi := nL_law) (pc := 1162) (y := yX9_paste) (idx := 130) dL_law_1162 q1618 q1619 q1620 rfl hk hyX9_paste (sigC q1621) pnX9_paste hl) wdX9_paste zX9_paste (Nat.le_of_ble_eq_true rfl) (Nat.le_of_ble_eq_true rfl)
theorem eL_law_1165 : SiZ nL_law 1165 (i_icmp (fun x y => x = y) 1514 1168) := s_icmp_eq dL_law_1165 (by decide)
theorem eL_law_1168 : SiZ nL_law 1168 (i_push (.int 0) 1169) := s_iconst dL_law_1168 (by decide)
theorem eL_law_1169 : SiZ nL_law 1169 i_zret := s_zret dL_law_1169 rfl
theorem eL_law_1170 : SiZ nL_law 1170 (i_aload 1 1171) := s_aload_n dL_law_1170 rfl
theorem eL_law_1171 : SiZ nL_law 1171 (i_aload 0 1172) := s_aload_n dL_law_1171 rfl
theorem eL_law_1172 : SiZ nL_law 1172 (i_iload 3 1173) := s_iload_n dL_law_1172 rfl
theorem eL_law_1173 : SiZ nL_law 1173 (i_push (.int 1) 1174) := s_iconst dL_law_1173 (by decide)
theorem eL_law_1174 : SiZ nL_law 1174 (i_bin (fun x y => x + y) 1175) := s_iadd dL_law_1174
theorem eL_law_1175 : SiZ nL_law 1175 (i_iald 58 1176) := s_aldX dL_law_1175
theorem eL_law_1176 : SiZ nL_law 1176 (i_aload 0 1177) := s_aload_n dL_law_1176 rfl
theorem eL_law_1177 : SiZ nL_law 1177 (i_iload 3 1178) := s_iload_n dL_law_1177 rfl
theorem eL_law_1178 : SiZ nL_law 1178 (i_push (.int 2) 1179) := s_iconst dL_law_1178 (by decide)
theorem eL_law_1179 : SiZ nL_law 1179 (i_bin (fun x y => x + y) 1180) := s_iadd dL_law_1179
theorem eL_law_1180 : SiZ nL_law 1180 (i_iald 58 1181) := s_aldX dL_law_1180
theorem eL_law_1181 : SiZ nL_law 1181 (i_aload 0 1182) := s_aload_n dL_law_1181 rfl
theorem eL_law_1182 : SiZ nL_law 1182 (i_iload 3 1183) := s_iload_n dL_law_1182 rfl
theorem eL_law_1183 : SiZ nL_law 1183 (i_push (.int 3) 1184) := s_iconst dL_law_1183 (by decide)
theorem eL_law_1184 : SiZ nL_law 1184 (i_bin (fun x y => x + y) 1185) := s_iadd dL_law_1184
theorem eL_law_1185 : SiZ nL_law 1185 (i_iald 58 1186) := s_aldX dL_law_1185
theorem eL_law_1186 : SiZ nL_law 1186 (i_aload 0 1187) := s_aload_n dL_law_1186 rfl
theorem eL_law_1187 : SiZ nL_law 1187 (i_iload 3 1188) := s_iload_n dL_law_1187 rfl
theorem eL_law_1188 : SiZ nL_law 1188 (i_push (.int 4) 1189) := s_iconst dL_law_1188 (by decide)
theorem eL_law_1189 : SiZ nL_law 1189 (i_bin (fun x y => x + y) 1190) := s_iadd dL_law_1189
theorem eL_law_1190 : SiZ nL_law 1190 (i_iald 58 1191) := s_aldX dL_law_1190
theorem eL_law_1191 : ScZ nL_law 1191 (c_V 4 1194 8 1 (Mt mX0_hungers 8)) := e_V (mi := nL_law) (mi' := nX0_hungers) (len := 3) (fun h b as rest hk hl => cs_V (ci := 0) (mi := nL_law) (pc := 1191) (y := yX0_hungers) (idx := 131) dL_law_1191 q1058 q1059 q1060 rfl hk hyX0_hungers (sigW q1061) pnX0_hungers hl) wdX0_hungers zX0_hungers (Nat.le_of_ble_eq_true rfl) (Nat.le_of_ble_eq_true rfl)
theorem eL_law_1194 : SiZ nL_law 1194 (i_aload 2 1195) := s_aload_n dL_law_1194 rfl
theorem eL_law_1195 : SiZ nL_law 1195 (i_aload 0 1196) := s_aload_n dL_law_1195 rfl
theorem eL_law_1196 : SiZ nL_law 1196 (i_iload 3 1197) := s_iload_n dL_law_1196 rfl
theorem eL_law_1197 : SiZ nL_law 1197 (i_push (.int 1) 1198) := s_iconst dL_law_1197 (by decide)
theorem eL_law_1198 : SiZ nL_law 1198 (i_bin (fun x y => x + y) 1199) := s_iadd dL_law_1198
theorem eL_law_1199 : SiZ nL_law 1199 (i_iald 58 1200) := s_aldX dL_law_1199
theorem eL_law_1200 : SiZ nL_law 1200 (i_aload 0 1201) := s_aload_n dL_law_1200 rfl
theorem eL_law_1201 : SiZ nL_law 1201 (i_iload 3 1202) := s_iload_n dL_law_1201 rfl
theorem eL_law_1202 : SiZ nL_law 1202 (i_push (.int 2) 1203) := s_iconst dL_law_1202 (by decide)
theorem eL_law_1203 : SiZ nL_law 1203 (i_bin (fun x y => x + y) 1204) := s_iadd dL_law_1203
theorem eL_law_1204 : SiZ nL_law 1204 (i_iald 58 1205) := s_aldX dL_law_1204
theorem eL_law_1205 : SiZ nL_law 1205 (i_aload 0 1206) := s_aload_n dL_law_1205 rfl
theorem eL_law_1206 : SiZ nL_law 1206 (i_iload 3 1207) := s_iload_n dL_law_1206 rfl
theorem eL_law_1207 : SiZ nL_law 1207 (i_push (.int 3) 1208) := s_iconst dL_law_1207 (by decide)
theorem eL_law_1208 : SiZ nL_law 1208 (i_bin (fun x y => x + y) 1209) := s_iadd dL_law_1208
theorem eL_law_1209 : SiZ nL_law 1209 (i_iald 58 1210) := s_aldX dL_law_1209
theorem eL_law_1210 : SiZ nL_law 1210 (i_aload 0 1211) := s_aload_n dL_law_1210 rfl
theorem eL_law_1211 : SiZ nL_law 1211 (i_iload 3 1212) := s_iload_n dL_law_1211 rfl
theorem eL_law_1212 : SiZ nL_law 1212 (i_push (.int 4) 1213) := s_iconst dL_law_1212 (by decide)
theorem eL_law_1213 : SiZ nL_law 1213 (i_bin (fun x y => x + y) 1214) := s_iadd dL_law_1213
theorem eL_law_1214 : SiZ nL_law 1214 (i_iald 58 1215) := s_aldX dL_law_1214
theorem eL_law_1215 : ScZ nL_law 1215 (c_V 4 1218 6 9 (Mt mX9_hungers 6)) := e_V (mi := nL_law) (mi' := nX9_hungers) (len := 3) (fun h b as rest hk hl => cs_V (ci := 8) (mi := nL_law) (pc := 1215) (y := yX9_hungers) (idx := 135) dL_law_1215 q1622 q1623 q1624 rfl hk hyX9_hungers (sigC q1625) pnX9_hungers hl) wdX9_hungers zX9_hungers (Nat.le_of_ble_eq_true rfl) (Nat.le_of_ble_eq_true rfl)
theorem eL_law_1218 : SiZ nL_law 1218 (i_icmp (fun x y => x = y) 1514 1221) := s_icmp_eq dL_law_1218 (by decide)
theorem eL_law_1221 : SiZ nL_law 1221 (i_push (.int 0) 1222) := s_iconst dL_law_1221 (by decide)
theorem eL_law_1222 : SiZ nL_law 1222 i_zret := s_zret dL_law_1222 rfl
theorem eL_law_1223 : SiZ nL_law 1223 (i_aload 1 1224) := s_aload_n dL_law_1223 rfl
theorem eL_law_1224 : SiZ nL_law 1224 (i_aload 0 1225) := s_aload_n dL_law_1224 rfl
theorem eL_law_1225 : SiZ nL_law 1225 (i_iload 3 1226) := s_iload_n dL_law_1225 rfl
theorem eL_law_1226 : SiZ nL_law 1226 (i_push (.int 1) 1227) := s_iconst dL_law_1226 (by decide)
theorem eL_law_1227 : SiZ nL_law 1227 (i_bin (fun x y => x + y) 1228) := s_iadd dL_law_1227
theorem eL_law_1228 : SiZ nL_law 1228 (i_iald 58 1229) := s_aldX dL_law_1228
theorem eL_law_1229 : SiZ nL_law 1229 (i_aload 0 1230) := s_aload_n dL_law_1229 rfl
theorem eL_law_1230 : SiZ nL_law 1230 (i_iload 3 1231) := s_iload_n dL_law_1230 rfl
theorem eL_law_1231 : SiZ nL_law 1231 (i_push (.int 2) 1232) := s_iconst dL_law_1231 (by decide)
theorem eL_law_1232 : SiZ nL_law 1232 (i_bin (fun x y => x + y) 1233) := s_iadd dL_law_1232
theorem eL_law_1233 : SiZ nL_law 1233 (i_iald 58 1234) := s_aldX dL_law_1233
theorem eL_law_1234 : SiZ nL_law 1234 (i_aload 0 1235) := s_aload_n dL_law_1234 rfl
theorem eL_law_1235 : SiZ nL_law 1235 (i_iload 3 1236) := s_iload_n dL_law_1235 rfl
theorem eL_law_1236 : SiZ nL_law 1236 (i_push (.int 3) 1237) := s_iconst dL_law_1236 (by decide)
theorem eL_law_1237 : SiZ nL_law 1237 (i_bin (fun x y => x + y) 1238) := s_iadd dL_law_1237
theorem eL_law_1238 : SiZ nL_law 1238 (i_iald 58 1239) := s_aldX dL_law_1238
theorem eL_law_1239 : SiZ nL_law 1239 (i_aload 0 1240) := s_aload_n dL_law_1239 rfl
theorem eL_law_1240 : SiZ nL_law 1240 (i_iload 3 1241) := s_iload_n dL_law_1240 rfl
theorem eL_law_1241 : SiZ nL_law 1241 (i_push (.int 4) 1242) := s_iconst dL_law_1241 (by decide)
theorem eL_law_1242 : SiZ nL_law 1242 (i_bin (fun x y => x + y) 1243) := s_iadd dL_law_1242
theorem eL_law_1243 : SiZ nL_law 1243 (i_iald 58 1244) := s_aldX dL_law_1243
theorem eL_law_1244 : ScZ nL_law 1244 (c_V 4 1247 14 1 (Mt mX0_dark 14)) := e_V (mi := nL_law) (mi' := nX0_dark) (len := 3) (fun h b as rest hk hl => cs_V (ci := 0) (mi := nL_law) (pc := 1244) (y := yX0_dark) (idx := 136) dL_law_1244 q1062 q1063 q1064 rfl hk hyX0_dark (sigC q1065) pnX0_dark hl) wdX0_dark zX0_dark (Nat.le_of_ble_eq_true rfl) (Nat.le_of_ble_eq_true rfl)
theorem eL_law_1247 : SiZ nL_law 1247 (i_aload 2 1248) := s_aload_n dL_law_1247 rfl
theorem eL_law_1248 : SiZ nL_law 1248 (i_aload 0 1249) := s_aload_n dL_law_1248 rfl
theorem eL_law_1249 : SiZ nL_law 1249 (i_iload 3 1250) := s_iload_n dL_law_1249 rfl
theorem eL_law_1250 : SiZ nL_law 1250 (i_push (.int 1) 1251) := s_iconst dL_law_1250 (by decide)
theorem eL_law_1251 : SiZ nL_law 1251 (i_bin (fun x y => x + y) 1252) := s_iadd dL_law_1251
theorem eL_law_1252 : SiZ nL_law 1252 (i_iald 58 1253) := s_aldX dL_law_1252
theorem eL_law_1253 : SiZ nL_law 1253 (i_aload 0 1254) := s_aload_n dL_law_1253 rfl
theorem eL_law_1254 : SiZ nL_law 1254 (i_iload 3 1255) := s_iload_n dL_law_1254 rfl
theorem eL_law_1255 : SiZ nL_law 1255 (i_push (.int 2) 1256) := s_iconst dL_law_1255 (by decide)
theorem eL_law_1256 : SiZ nL_law 1256 (i_bin (fun x y => x + y) 1257) := s_iadd dL_law_1256
theorem eL_law_1257 : SiZ nL_law 1257 (i_iald 58 1258) := s_aldX dL_law_1257
theorem eL_law_1258 : SiZ nL_law 1258 (i_aload 0 1259) := s_aload_n dL_law_1258 rfl
theorem eL_law_1259 : SiZ nL_law 1259 (i_iload 3 1260) := s_iload_n dL_law_1259 rfl
theorem eL_law_1260 : SiZ nL_law 1260 (i_push (.int 3) 1261) := s_iconst dL_law_1260 (by decide)
theorem eL_law_1261 : SiZ nL_law 1261 (i_bin (fun x y => x + y) 1262) := s_iadd dL_law_1261
theorem eL_law_1262 : SiZ nL_law 1262 (i_iald 58 1263) := s_aldX dL_law_1262
theorem eL_law_1263 : SiZ nL_law 1263 (i_aload 0 1264) := s_aload_n dL_law_1263 rfl
theorem eL_law_1264 : SiZ nL_law 1264 (i_iload 3 1265) := s_iload_n dL_law_1264 rfl
theorem eL_law_1265 : SiZ nL_law 1265 (i_push (.int 4) 1266) := s_iconst dL_law_1265 (by decide)
theorem eL_law_1266 : SiZ nL_law 1266 (i_bin (fun x y => x + y) 1267) := s_iadd dL_law_1266
theorem eL_law_1267 : SiZ nL_law 1267 (i_iald 58 1268) := s_aldX dL_law_1267
theorem eL_law_1268 : ScZ nL_law 1268 (c_V 4 1271 16 9 (Mt mX9_dark 16)) := e_V (mi := nL_law) (mi' := nX9_dark) (len := 3) (fun h b as rest hk hl => cs_V (ci := 8) (mi := nL_law) (pc := 1268) (y := yX9_dark) (idx := 140) dL_law_1268 q1626 q1627 q1628 rfl hk hyX9_dark (sigC q1629) pnX9_dark hl) wdX9_dark zX9_dark (Nat.le_of_ble_eq_true rfl) (Nat.le_of_ble_eq_true rfl)
theorem eL_law_1271 : SiZ nL_law 1271 (i_lcmp 1272) := s_lcmp dL_law_1271
theorem eL_law_1272 : SiZ nL_law 1272 (i_if (fun x => x = 0) 1514 1275) := s_if_eq dL_law_1272 (by decide)
theorem eL_law_1275 : SiZ nL_law 1275 (i_push (.int 0) 1276) := s_iconst dL_law_1275 (by decide)
theorem eL_law_1276 : SiZ nL_law 1276 i_zret := s_zret dL_law_1276 rfl
theorem eL_law_1277 : SiZ nL_law 1277 (i_aload 1 1278) := s_aload_n dL_law_1277 rfl
theorem eL_law_1278 : SiZ nL_law 1278 (i_aload 0 1279) := s_aload_n dL_law_1278 rfl
theorem eL_law_1279 : SiZ nL_law 1279 (i_iload 3 1280) := s_iload_n dL_law_1279 rfl
theorem eL_law_1280 : SiZ nL_law 1280 (i_push (.int 1) 1281) := s_iconst dL_law_1280 (by decide)
theorem eL_law_1281 : SiZ nL_law 1281 (i_bin (fun x y => x + y) 1282) := s_iadd dL_law_1281
theorem eL_law_1282 : SiZ nL_law 1282 (i_iald 58 1283) := s_aldX dL_law_1282
theorem eL_law_1283 : SiZ nL_law 1283 (i_aload 0 1284) := s_aload_n dL_law_1283 rfl
theorem eL_law_1284 : SiZ nL_law 1284 (i_iload 3 1285) := s_iload_n dL_law_1284 rfl
theorem eL_law_1285 : SiZ nL_law 1285 (i_push (.int 2) 1286) := s_iconst dL_law_1285 (by decide)
theorem eL_law_1286 : SiZ nL_law 1286 (i_bin (fun x y => x + y) 1287) := s_iadd dL_law_1286
theorem eL_law_1287 : SiZ nL_law 1287 (i_iald 58 1288) := s_aldX dL_law_1287
theorem eL_law_1288 : SiZ nL_law 1288 (i_aload 0 1289) := s_aload_n dL_law_1288 rfl
theorem eL_law_1289 : SiZ nL_law 1289 (i_iload 3 1290) := s_iload_n dL_law_1289 rfl
theorem eL_law_1290 : SiZ nL_law 1290 (i_push (.int 3) 1291) := s_iconst dL_law_1290 (by decide)
theorem eL_law_1291 : SiZ nL_law 1291 (i_bin (fun x y => x + y) 1292) := s_iadd dL_law_1291
theorem eL_law_1292 : SiZ nL_law 1292 (i_iald 58 1293) := s_aldX dL_law_1292
theorem eL_law_1293 : ScZ nL_law 1293 (c_V 3 1296 8 1 (Mt mX0_drawn 8)) := e_V (mi := nL_law) (mi' := nX0_drawn) (len := 3) (fun h b as rest hk hl => cs_V (ci := 0) (mi := nL_law) (pc := 1293) (y := yX0_drawn) (idx := 141) dL_law_1293 q1071 q1072 q1073 rfl hk hyX0_drawn (sigC q1074) pnX0_drawn hl) wdX0_drawn zX0_drawn (Nat.le_of_ble_eq_true rfl) (Nat.le_of_ble_eq_true rfl)
theorem eL_law_1296 : SiZ nL_law 1296 (i_aload 2 1297) := s_aload_n dL_law_1296 rfl
theorem eL_law_1297 : SiZ nL_law 1297 (i_aload 0 1298) := s_aload_n dL_law_1297 rfl
theorem eL_law_1298 : SiZ nL_law 1298 (i_iload 3 1299) := s_iload_n dL_law_1298 rfl
theorem eL_law_1299 : SiZ nL_law 1299 (i_push (.int 1) 1300) := s_iconst dL_law_1299 (by decide)
theorem eL_law_1300 : SiZ nL_law 1300 (i_bin (fun x y => x + y) 1301) := s_iadd dL_law_1300
theorem eL_law_1301 : SiZ nL_law 1301 (i_iald 58 1302) := s_aldX dL_law_1301
theorem eL_law_1302 : SiZ nL_law 1302 (i_aload 0 1303) := s_aload_n dL_law_1302 rfl
theorem eL_law_1303 : SiZ nL_law 1303 (i_iload 3 1304) := s_iload_n dL_law_1303 rfl
theorem eL_law_1304 : SiZ nL_law 1304 (i_push (.int 2) 1305) := s_iconst dL_law_1304 (by decide)
theorem eL_law_1305 : SiZ nL_law 1305 (i_bin (fun x y => x + y) 1306) := s_iadd dL_law_1305
theorem eL_law_1306 : SiZ nL_law 1306 (i_iald 58 1307) := s_aldX dL_law_1306
theorem eL_law_1307 : SiZ nL_law 1307 (i_aload 0 1308) := s_aload_n dL_law_1307 rfl
theorem eL_law_1308 : SiZ nL_law 1308 (i_iload 3 1309) := s_iload_n dL_law_1308 rfl
theorem eL_law_1309 : SiZ nL_law 1309 (i_push (.int 3) 1310) := s_iconst dL_law_1309 (by decide)
theorem eL_law_1310 : SiZ nL_law 1310 (i_bin (fun x y => x + y) 1311) := s_iadd dL_law_1310
theorem eL_law_1311 : SiZ nL_law 1311 (i_iald 58 1312) := s_aldX dL_law_1311
theorem eL_law_1312 : ScZ nL_law 1312 (c_V 3 1315 8 9 (Mt mX9_drawn 8)) := e_V (mi := nL_law) (mi' := nX9_drawn) (len := 3) (fun h b as rest hk hl => cs_V (ci := 8) (mi := nL_law) (pc := 1312) (y := yX9_drawn) (idx := 144) dL_law_1312 q1632 q1633 q1634 rfl hk hyX9_drawn (sigC q1635) pnX9_drawn hl) wdX9_drawn zX9_drawn (Nat.le_of_ble_eq_true rfl) (Nat.le_of_ble_eq_true rfl)
theorem eL_law_1315 : SiZ nL_law 1315 (i_icmp (fun x y => x = y) 1514 1318) := s_icmp_eq dL_law_1315 (by decide)
theorem eL_law_1318 : SiZ nL_law 1318 (i_push (.int 0) 1319) := s_iconst dL_law_1318 (by decide)
theorem eL_law_1319 : SiZ nL_law 1319 i_zret := s_zret dL_law_1319 rfl
theorem eL_law_1320 : SiZ nL_law 1320 (i_aload 1 1321) := s_aload_n dL_law_1320 rfl
theorem eL_law_1321 : SiZ nL_law 1321 (i_aload 0 1322) := s_aload_n dL_law_1321 rfl
theorem eL_law_1322 : SiZ nL_law 1322 (i_iload 3 1323) := s_iload_n dL_law_1322 rfl
theorem eL_law_1323 : SiZ nL_law 1323 (i_push (.int 1) 1324) := s_iconst dL_law_1323 (by decide)
theorem eL_law_1324 : SiZ nL_law 1324 (i_bin (fun x y => x + y) 1325) := s_iadd dL_law_1324
theorem eL_law_1325 : SiZ nL_law 1325 (i_iald 58 1326) := s_aldX dL_law_1325
theorem eL_law_1326 : ScZ nL_law 1326 (c_V 1 1329 2 1 (Mt mX0_image 2)) := e_V (mi := nL_law) (mi' := nX0_image) (len := 3) (fun h b as rest hk hl => cs_V (ci := 0) (mi := nL_law) (pc := 1326) (y := yX0_image) (idx := 145) dL_law_1326 q1080 q1081 q1082 rfl hk hyX0_image (sigC q1083) pnX0_image hl) wdX0_image zX0_image (Nat.le_of_ble_eq_true rfl) (Nat.le_of_ble_eq_true rfl)
theorem eL_law_1329 : SiZ nL_law 1329 (i_aload 2 1330) := s_aload_n dL_law_1329 rfl
theorem eL_law_1330 : SiZ nL_law 1330 (i_aload 0 1331) := s_aload_n dL_law_1330 rfl
theorem eL_law_1331 : SiZ nL_law 1331 (i_iload 3 1332) := s_iload_n dL_law_1331 rfl
theorem eL_law_1332 : SiZ nL_law 1332 (i_push (.int 1) 1333) := s_iconst dL_law_1332 (by decide)
theorem eL_law_1333 : SiZ nL_law 1333 (i_bin (fun x y => x + y) 1334) := s_iadd dL_law_1333
theorem eL_law_1334 : SiZ nL_law 1334 (i_iald 58 1335) := s_aldX dL_law_1334
theorem eL_law_1335 : ScZ nL_law 1335 (c_V 1 1338 3 9 (Mt mX9_image 3)) := e_V (mi := nL_law) (mi' := nX9_image) (len := 3) (fun h b as rest hk hl => cs_V (ci := 8) (mi := nL_law) (pc := 1335) (y := yX9_image) (idx := 148) dL_law_1335 q1640 q1641 q1642 rfl hk hyX9_image (sigC q1643) pnX9_image hl) wdX9_image zX9_image (Nat.le_of_ble_eq_true rfl) (Nat.le_of_ble_eq_true rfl)
theorem eL_law_1338 : SiZ nL_law 1338 (i_icmp (fun x y => x = y) 1514 1341) := s_icmp_eq dL_law_1338 (by decide)
theorem eL_law_1341 : SiZ nL_law 1341 (i_push (.int 0) 1342) := s_iconst dL_law_1341 (by decide)
theorem eL_law_1342 : SiZ nL_law 1342 i_zret := s_zret dL_law_1342 rfl
theorem eL_law_1343 : SiZ nL_law 1343 (i_aload 1 1344) := s_aload_n dL_law_1343 rfl
theorem eL_law_1344 : SiZ nL_law 1344 (i_aload 0 1345) := s_aload_n dL_law_1344 rfl
theorem eL_law_1345 : SiZ nL_law 1345 (i_iload 3 1346) := s_iload_n dL_law_1345 rfl
theorem eL_law_1346 : SiZ nL_law 1346 (i_push (.int 1) 1347) := s_iconst dL_law_1346 (by decide)
theorem eL_law_1347 : SiZ nL_law 1347 (i_bin (fun x y => x + y) 1348) := s_iadd dL_law_1347
theorem eL_law_1348 : SiZ nL_law 1348 (i_iald 58 1349) := s_aldX dL_law_1348
theorem eL_law_1349 : ScZ nL_law 1349 (c_V 1 1352 2 1 (Mt mX0_restore 2)) := e_V (mi := nL_law) (mi' := nX0_restore) (len := 3) (fun h b as rest hk hl => cs_V (ci := 0) (mi := nL_law) (pc := 1349) (y := yX0_restore) (idx := 149) dL_law_1349 q1084 q1085 q1086 rfl hk hyX0_restore (sigC q1087) pnX0_restore hl) wdX0_restore zX0_restore (Nat.le_of_ble_eq_true rfl) (Nat.le_of_ble_eq_true rfl)
theorem eL_law_1352 : SiZ nL_law 1352 (i_aload 2 1353) := s_aload_n dL_law_1352 rfl
theorem eL_law_1353 : SiZ nL_law 1353 (i_aload 0 1354) := s_aload_n dL_law_1353 rfl
theorem eL_law_1354 : SiZ nL_law 1354 (i_iload 3 1355) := s_iload_n dL_law_1354 rfl
theorem eL_law_1355 : SiZ nL_law 1355 (i_push (.int 1) 1356) := s_iconst dL_law_1355 (by decide)
theorem eL_law_1356 : SiZ nL_law 1356 (i_bin (fun x y => x + y) 1357) := s_iadd dL_law_1356
theorem eL_law_1357 : SiZ nL_law 1357 (i_iald 58 1358) := s_aldX dL_law_1357
theorem eL_law_1358 : ScZ nL_law 1358 (c_V 1 1361 3 9 (Mt mX9_restore 3)) := e_V (mi := nL_law) (mi' := nX9_restore) (len := 3) (fun h b as rest hk hl => cs_V (ci := 8) (mi := nL_law) (pc := 1358) (y := yX9_restore) (idx := 152) dL_law_1358 q1644 q1645 q1646 rfl hk hyX9_restore (sigC q1647) pnX9_restore hl) wdX9_restore zX9_restore (Nat.le_of_ble_eq_true rfl) (Nat.le_of_ble_eq_true rfl)
theorem eL_law_1361 : SiZ nL_law 1361 (i_icmp (fun x y => x = y) 1514 1364) := s_icmp_eq dL_law_1361 (by decide)
theorem eL_law_1364 : SiZ nL_law 1364 (i_push (.int 0) 1365) := s_iconst dL_law_1364 (by decide)
theorem eL_law_1365 : SiZ nL_law 1365 i_zret := s_zret dL_law_1365 rfl
theorem eL_law_1366 : SiZ nL_law 1366 (i_aload 1 1367) := s_aload_n dL_law_1366 rfl
theorem eL_law_1367 : SiZ nL_law 1367 (i_aload 0 1368) := s_aload_n dL_law_1367 rfl
theorem eL_law_1368 : SiZ nL_law 1368 (i_iload 3 1369) := s_iload_n dL_law_1368 rfl
theorem eL_law_1369 : SiZ nL_law 1369 (i_push (.int 1) 1370) := s_iconst dL_law_1369 (by decide)
theorem eL_law_1370 : SiZ nL_law 1370 (i_bin (fun x y => x + y) 1371) := s_iadd dL_law_1370
theorem eL_law_1371 : SiZ nL_law 1371 (i_iald 58 1372) := s_aldX dL_law_1371
theorem eL_law_1372 : ScZ nL_law 1372 (c_V 1 1375 2 1 (Mt mX0_kind 2)) := e_V (mi := nL_law) (mi' := nX0_kind) (len := 3) (fun h b as rest hk hl => cs_V (ci := 0) (mi := nL_law) (pc := 1372) (y := yX0_kind) (idx := 153) dL_law_1372 q1088 q1089 q1090 rfl hk hyX0_kind (sigC q1091) pnX0_kind hl) wdX0_kind zX0_kind (Nat.le_of_ble_eq_true rfl) (Nat.le_of_ble_eq_true rfl)
theorem eL_law_1375 : SiZ nL_law 1375 (i_aload 2 1376) := s_aload_n dL_law_1375 rfl
theorem eL_law_1376 : SiZ nL_law 1376 (i_aload 0 1377) := s_aload_n dL_law_1376 rfl
theorem eL_law_1377 : SiZ nL_law 1377 (i_iload 3 1378) := s_iload_n dL_law_1377 rfl
theorem eL_law_1378 : SiZ nL_law 1378 (i_push (.int 1) 1379) := s_iconst dL_law_1378 (by decide)
theorem eL_law_1379 : SiZ nL_law 1379 (i_bin (fun x y => x + y) 1380) := s_iadd dL_law_1379
theorem eL_law_1380 : SiZ nL_law 1380 (i_iald 58 1381) := s_aldX dL_law_1380
theorem eL_law_1381 : ScZ nL_law 1381 (c_V 1 1384 2 9 (Mt mX9_kind 2)) := e_V (mi := nL_law) (mi' := nX9_kind) (len := 3) (fun h b as rest hk hl => cs_V (ci := 8) (mi := nL_law) (pc := 1381) (y := yX9_kind) (idx := 156) dL_law_1381 q1648 q1649 q1650 rfl hk hyX9_kind (sigC q1651) pnX9_kind hl) wdX9_kind zX9_kind (Nat.le_of_ble_eq_true rfl) (Nat.le_of_ble_eq_true rfl)
theorem eL_law_1384 : SiZ nL_law 1384 (i_icmp (fun x y => x = y) 1514 1387) := s_icmp_eq dL_law_1384 (by decide)
theorem eL_law_1387 : SiZ nL_law 1387 (i_push (.int 0) 1388) := s_iconst dL_law_1387 (by decide)
theorem eL_law_1388 : SiZ nL_law 1388 i_zret := s_zret dL_law_1388 rfl
theorem eL_law_1389 : SiZ nL_law 1389 (i_aload 1 1390) := s_aload_n dL_law_1389 rfl
theorem eL_law_1390 : SiZ nL_law 1390 (i_aload 0 1391) := s_aload_n dL_law_1390 rfl
theorem eL_law_1391 : SiZ nL_law 1391 (i_iload 3 1392) := s_iload_n dL_law_1391 rfl
theorem eL_law_1392 : SiZ nL_law 1392 (i_push (.int 1) 1393) := s_iconst dL_law_1392 (by decide)
theorem eL_law_1393 : SiZ nL_law 1393 (i_bin (fun x y => x + y) 1394) := s_iadd dL_law_1393
theorem eL_law_1394 : SiZ nL_law 1394 (i_iald 58 1395) := s_aldX dL_law_1394
theorem eL_law_1395 : SiZ nL_law 1395 (i_aload 0 1396) := s_aload_n dL_law_1395 rfl
theorem eL_law_1396 : SiZ nL_law 1396 (i_iload 3 1397) := s_iload_n dL_law_1396 rfl
theorem eL_law_1397 : SiZ nL_law 1397 (i_push (.int 2) 1398) := s_iconst dL_law_1397 (by decide)
theorem eL_law_1398 : SiZ nL_law 1398 (i_bin (fun x y => x + y) 1399) := s_iadd dL_law_1398
theorem eL_law_1399 : SiZ nL_law 1399 (i_iald 58 1400) := s_aldX dL_law_1399
theorem eL_law_1400 : ScZ nL_law 1400 (c_V 2 1403 5 1 (Mt mX0_as 5)) := e_V (mi := nL_law) (mi' := nX0_as) (len := 3) (fun h b as rest hk hl => cs_V (ci := 0) (mi := nL_law) (pc := 1400) (y := yX0_as) (idx := 157) dL_law_1400 q1112 q1113 q1114 rfl hk hyX0_as (sigW q1115) pnX0_as hl) wdX0_as zX0_as (Nat.le_of_ble_eq_true rfl) (Nat.le_of_ble_eq_true rfl)
theorem eL_law_1403 : SiZ nL_law 1403 (i_aload 2 1404) := s_aload_n dL_law_1403 rfl
theorem eL_law_1404 : SiZ nL_law 1404 (i_aload 0 1405) := s_aload_n dL_law_1404 rfl
theorem eL_law_1405 : SiZ nL_law 1405 (i_iload 3 1406) := s_iload_n dL_law_1405 rfl
theorem eL_law_1406 : SiZ nL_law 1406 (i_push (.int 1) 1407) := s_iconst dL_law_1406 (by decide)
theorem eL_law_1407 : SiZ nL_law 1407 (i_bin (fun x y => x + y) 1408) := s_iadd dL_law_1407
theorem eL_law_1408 : SiZ nL_law 1408 (i_iald 58 1409) := s_aldX dL_law_1408
theorem eL_law_1409 : SiZ nL_law 1409 (i_aload 0 1410) := s_aload_n dL_law_1409 rfl
theorem eL_law_1410 : SiZ nL_law 1410 (i_iload 3 1411) := s_iload_n dL_law_1410 rfl
theorem eL_law_1411 : SiZ nL_law 1411 (i_push (.int 2) 1412) := s_iconst dL_law_1411 (by decide)
theorem eL_law_1412 : SiZ nL_law 1412 (i_bin (fun x y => x + y) 1413) := s_iadd dL_law_1412
theorem eL_law_1413 : SiZ nL_law 1413 (i_iald 58 1414) := s_aldX dL_law_1413
theorem eL_law_1414 : ScZ nL_law 1414 (c_V 2 1417 3 9 (Mt mX9_as 3)) := e_V (mi := nL_law) (mi' := nX9_as) (len := 3) (fun h b as rest hk hl => cs_V (ci := 8) (mi := nL_law) (pc := 1414) (y := yX9_as) (idx := 160) dL_law_1414 q1652 q1653 q1654 rfl hk hyX9_as (sigC q1655) pnX9_as hl) wdX9_as zX9_as (Nat.le_of_ble_eq_true rfl) (Nat.le_of_ble_eq_true rfl)
theorem eL_law_1417 : SiZ nL_law 1417 (i_icmp (fun x y => x = y) 1514 1420) := s_icmp_eq dL_law_1417 (by decide)
theorem eL_law_1420 : SiZ nL_law 1420 (i_push (.int 0) 1421) := s_iconst dL_law_1420 (by decide)
theorem eL_law_1421 : SiZ nL_law 1421 i_zret := s_zret dL_law_1421 rfl
theorem eL_law_1422 : SiZ nL_law 1422 (i_aload 1 1423) := s_aload_n dL_law_1422 rfl
theorem eL_law_1423 : SiZ nL_law 1423 (i_aload 0 1424) := s_aload_n dL_law_1423 rfl
theorem eL_law_1424 : SiZ nL_law 1424 (i_iload 3 1425) := s_iload_n dL_law_1424 rfl
theorem eL_law_1425 : SiZ nL_law 1425 (i_push (.int 1) 1426) := s_iconst dL_law_1425 (by decide)
theorem eL_law_1426 : SiZ nL_law 1426 (i_bin (fun x y => x + y) 1427) := s_iadd dL_law_1426
theorem eL_law_1427 : SiZ nL_law 1427 (i_iald 58 1428) := s_aldX dL_law_1427
theorem eL_law_1428 : SiZ nL_law 1428 (i_aload 0 1429) := s_aload_n dL_law_1428 rfl
theorem eL_law_1429 : SiZ nL_law 1429 (i_iload 3 1430) := s_iload_n dL_law_1429 rfl
theorem eL_law_1430 : SiZ nL_law 1430 (i_push (.int 2) 1431) := s_iconst dL_law_1430 (by decide)
theorem eL_law_1431 : SiZ nL_law 1431 (i_bin (fun x y => x + y) 1432) := s_iadd dL_law_1431
theorem eL_law_1432 : SiZ nL_law 1432 (i_iald 58 1433) := s_aldX dL_law_1432
theorem eL_law_1433 : ScZ nL_law 1433 (c_V 2 1436 4 1 (Mt mX0_ask 4)) := e_V (mi := nL_law) (mi' := nX0_ask) (len := 3) (fun h b as rest hk hl => cs_V (ci := 0) (mi := nL_law) (pc := 1433) (y := yX0_ask) (idx := 161) dL_law_1433 q1139 q1140 q1141 rfl hk hyX0_ask (sigC q1142) pnX0_ask hl) wdX0_ask zX0_ask (Nat.le_of_ble_eq_true rfl) (Nat.le_of_ble_eq_true rfl)
theorem eL_law_1436 : SiZ nL_law 1436 (i_aload 2 1437) := s_aload_n dL_law_1436 rfl
theorem eL_law_1437 : SiZ nL_law 1437 (i_aload 0 1438) := s_aload_n dL_law_1437 rfl
theorem eL_law_1438 : SiZ nL_law 1438 (i_iload 3 1439) := s_iload_n dL_law_1438 rfl
theorem eL_law_1439 : SiZ nL_law 1439 (i_push (.int 1) 1440) := s_iconst dL_law_1439 (by decide)
theorem eL_law_1440 : SiZ nL_law 1440 (i_bin (fun x y => x + y) 1441) := s_iadd dL_law_1440
theorem eL_law_1441 : SiZ nL_law 1441 (i_iald 58 1442) := s_aldX dL_law_1441
theorem eL_law_1442 : SiZ nL_law 1442 (i_aload 0 1443) := s_aload_n dL_law_1442 rfl
theorem eL_law_1443 : SiZ nL_law 1443 (i_iload 3 1444) := s_iload_n dL_law_1443 rfl
theorem eL_law_1444 : SiZ nL_law 1444 (i_push (.int 2) 1445) := s_iconst dL_law_1444 (by decide)
theorem eL_law_1445 : SiZ nL_law 1445 (i_bin (fun x y => x + y) 1446) := s_iadd dL_law_1445
theorem eL_law_1446 : SiZ nL_law 1446 (i_iald 58 1447) := s_aldX dL_law_1446
theorem eL_law_1447 : ScZ nL_law 1447 (c_V 2 1450 3 9 (Mt mX9_ask 3)) := e_V (mi := nL_law) (mi' := nX9_ask) (len := 3) (fun h b as rest hk hl => cs_V (ci := 8) (mi := nL_law) (pc := 1447) (y := yX9_ask) (idx := 164) dL_law_1447 q1659 q1660 q1661 rfl hk hyX9_ask (sigC q1662) pnX9_ask hl) wdX9_ask zX9_ask (Nat.le_of_ble_eq_true rfl) (Nat.le_of_ble_eq_true rfl)
theorem eL_law_1450 : SiZ nL_law 1450 (i_icmp (fun x y => x = y) 1514 1453) := s_icmp_eq dL_law_1450 (by decide)
theorem eL_law_1453 : SiZ nL_law 1453 (i_push (.int 0) 1454) := s_iconst dL_law_1453 (by decide)
theorem eL_law_1454 : SiZ nL_law 1454 i_zret := s_zret dL_law_1454 rfl
theorem eL_law_1455 : SiZ nL_law 1455 (i_aload 1 1456) := s_aload_n dL_law_1455 rfl
theorem eL_law_1456 : SiZ nL_law 1456 (i_aload 0 1457) := s_aload_n dL_law_1456 rfl
theorem eL_law_1457 : SiZ nL_law 1457 (i_iload 3 1458) := s_iload_n dL_law_1457 rfl
theorem eL_law_1458 : SiZ nL_law 1458 (i_push (.int 1) 1459) := s_iconst dL_law_1458 (by decide)
theorem eL_law_1459 : SiZ nL_law 1459 (i_bin (fun x y => x + y) 1460) := s_iadd dL_law_1459
theorem eL_law_1460 : SiZ nL_law 1460 (i_iald 58 1461) := s_aldX dL_law_1460
theorem eL_law_1461 : ScZ nL_law 1461 (c_V 1 1464 2 1 (Mt mX0_trace 2)) := e_V (mi := nL_law) (mi' := nX0_trace) (len := 3) (fun h b as rest hk hl => cs_V (ci := 0) (mi := nL_law) (pc := 1461) (y := yX0_trace) (idx := 165) dL_law_1461 q1225 q1226 q1227 rfl hk hyX0_trace (sigC q1228) pnX0_trace hl) wdX0_trace zX0_trace (Nat.le_of_ble_eq_true rfl) (Nat.le_of_ble_eq_true rfl)
theorem eL_law_1464 : SiZ nL_law 1464 (i_aload 2 1465) := s_aload_n dL_law_1464 rfl
theorem eL_law_1465 : SiZ nL_law 1465 (i_aload 0 1466) := s_aload_n dL_law_1465 rfl
theorem eL_law_1466 : SiZ nL_law 1466 (i_iload 3 1467) := s_iload_n dL_law_1466 rfl
theorem eL_law_1467 : SiZ nL_law 1467 (i_push (.int 1) 1468) := s_iconst dL_law_1467 (by decide)
theorem eL_law_1468 : SiZ nL_law 1468 (i_bin (fun x y => x + y) 1469) := s_iadd dL_law_1468
theorem eL_law_1469 : SiZ nL_law 1469 (i_iald 58 1470) := s_aldX dL_law_1469
theorem eL_law_1470 : ScZ nL_law 1470 (c_V 1 1473 2 9 (Mt mX9_trace 2)) := e_V (mi := nL_law) (mi' := nX9_trace) (len := 3) (fun h b as rest hk hl => cs_V (ci := 8) (mi := nL_law) (pc := 1470) (y := yX9_trace) (idx := 168) dL_law_1470 q1695 q1696 q1697 rfl hk hyX9_trace (sigC q1698) pnX9_trace hl) wdX9_trace zX9_trace (Nat.le_of_ble_eq_true rfl) (Nat.le_of_ble_eq_true rfl)
theorem eL_law_1473 : SiZ nL_law 1473 (i_icmp (fun x y => x = y) 1514 1476) := s_icmp_eq dL_law_1473 (by decide)
theorem eL_law_1476 : SiZ nL_law 1476 (i_push (.int 0) 1477) := s_iconst dL_law_1476 (by decide)
theorem eL_law_1477 : SiZ nL_law 1477 i_zret := s_zret dL_law_1477 rfl
theorem eL_law_1478 : SiZ nL_law 1478 (i_aload 1 1479) := s_aload_n dL_law_1478 rfl
theorem eL_law_1479 : SiZ nL_law 1479 (i_aload 0 1480) := s_aload_n dL_law_1479 rfl
theorem eL_law_1480 : SiZ nL_law 1480 (i_iload 3 1481) := s_iload_n dL_law_1480 rfl
theorem eL_law_1481 : SiZ nL_law 1481 (i_push (.int 1) 1482) := s_iconst dL_law_1481 (by decide)
theorem eL_law_1482 : SiZ nL_law 1482 (i_bin (fun x y => x + y) 1483) := s_iadd dL_law_1482
theorem eL_law_1483 : SiZ nL_law 1483 (i_iald 58 1484) := s_aldX dL_law_1483
theorem eL_law_1484 : ScZ nL_law 1484 (c_V 1 1487 4 1 (Mt mX0_count 4)) := e_V (mi := nL_law) (mi' := nX0_count) (len := 3) (fun h b as rest hk hl => cs_V (ci := 0) (mi := nL_law) (pc := 1484) (y := yX0_count) (idx := 169) dL_law_1484 q1229 q1230 q1231 rfl hk hyX0_count (sigC q1232) pnX0_count hl) wdX0_count zX0_count (Nat.le_of_ble_eq_true rfl) (Nat.le_of_ble_eq_true rfl)
theorem eL_law_1487 : SiZ nL_law 1487 (i_aload 2 1488) := s_aload_n dL_law_1487 rfl
theorem eL_law_1488 : SiZ nL_law 1488 (i_aload 0 1489) := s_aload_n dL_law_1488 rfl
theorem eL_law_1489 : SiZ nL_law 1489 (i_iload 3 1490) := s_iload_n dL_law_1489 rfl
theorem eL_law_1490 : SiZ nL_law 1490 (i_push (.int 1) 1491) := s_iconst dL_law_1490 (by decide)
theorem eL_law_1491 : SiZ nL_law 1491 (i_bin (fun x y => x + y) 1492) := s_iadd dL_law_1491
theorem eL_law_1492 : SiZ nL_law 1492 (i_iald 58 1493) := s_aldX dL_law_1492
theorem eL_law_1493 : ScZ nL_law 1493 (c_V 1 1496 5 9 (Mt mX9_count 5)) := e_V (mi := nL_law) (mi' := nX9_count) (len := 3) (fun h b as rest hk hl => cs_V (ci := 8) (mi := nL_law) (pc := 1493) (y := yX9_count) (idx := 172) dL_law_1493 q1699 q1700 q1701 rfl hk hyX9_count (sigC q1702) pnX9_count hl) wdX9_count zX9_count (Nat.le_of_ble_eq_true rfl) (Nat.le_of_ble_eq_true rfl)
theorem eL_law_1496 : SiZ nL_law 1496 (i_icmp (fun x y => x = y) 1514 1499) := s_icmp_eq dL_law_1496 (by decide)
theorem eL_law_1499 : SiZ nL_law 1499 (i_push (.int 0) 1500) := s_iconst dL_law_1499 (by decide)
theorem eL_law_1500 : SiZ nL_law 1500 i_zret := s_zret dL_law_1500 rfl
theorem eL_law_1501 : SiZ nL_law 1501 (i_aload 1 1502) := s_aload_n dL_law_1501 rfl
theorem eL_law_1502 : ScZ nL_law 1502 (c_V 0 1505 1 1 (Mt mX0_status 1)) := e_V (mi := nL_law) (mi' := nX0_status) (len := 3) (fun h b as rest hk hl => cs_V (ci := 0) (mi := nL_law) (pc := 1502) (y := yX0_status) (idx := 173) dL_law_1502 q1237 q1238 q1239 rfl hk hyX0_status (sigC q1240) pnX0_status hl) wdX0_status zX0_status (Nat.le_of_ble_eq_true rfl) (Nat.le_of_ble_eq_true rfl)
theorem eL_law_1505 : SiZ nL_law 1505 (i_aload 2 1506) := s_aload_n dL_law_1505 rfl
theorem eL_law_1506 : ScZ nL_law 1506 (c_V 0 1509 1 9 (Mt mX9_status 1)) := e_V (mi := nL_law) (mi' := nX9_status) (len := 3) (fun h b as rest hk hl => cs_V (ci := 8) (mi := nL_law) (pc := 1506) (y := yX9_status) (idx := 176) dL_law_1506 q1703 q1704 q1705 rfl hk hyX9_status (sigC q1706) pnX9_status hl) wdX9_status zX9_status (Nat.le_of_ble_eq_true rfl) (Nat.le_of_ble_eq_true rfl)
theorem eL_law_1509 : SiZ nL_law 1509 (i_icmp (fun x y => x = y) 1514 1512) := s_icmp_eq dL_law_1509 (by decide)
theorem eL_law_1512 : SiZ nL_law 1512 (i_push (.int 0) 1513) := s_iconst dL_law_1512 (by decide)
theorem eL_law_1513 : SiZ nL_law 1513 i_zret := s_zret dL_law_1513 rfl
theorem eL_law_1514 : SiZ nL_law 1514 (i_iinc 3 7 1517) := s_iinc dL_law_1514 (by decide)
theorem eL_law_1517 : SiZ nL_law 1517 (i_goto 18) := s_goto dL_law_1517 (by decide)
theorem eL_law_1520 : SiZ nL_law 1520 (i_push (.int 1) 1521) := s_iconst dL_law_1520 (by decide)
theorem eL_law_1521 : SiZ nL_law 1521 i_zret := s_zret dL_law_1521 rfl
theorem aL_law : ∀ x ∈ mL_law.1, EnZ nL_law x := fm_cons eL_law_0 (fm_cons eL_law_3 (fm_cons eL_law_4 (fm_cons eL_law_7 (fm_cons eL_law_8 (fm_cons eL_law_11 (fm_cons eL_law_12 (fm_cons eL_law_15 (fm_cons eL_law_16 (fm_cons eL_law_17 (fm_cons eL_law_18 (fm_cons eL_law_19 (fm_cons eL_law_20 (fm_cons eL_law_21 (fm_cons eL_law_23 (fm_cons eL_law_24 (fm_cons eL_law_27 (fm_cons eL_law_28 (fm_cons eL_law_29 (fm_cons eL_law_30 (fm_cons eL_law_32 (fm_cons eL_law_33 (fm_cons eL_law_204 (fm_cons eL_law_205 (fm_cons eL_law_206 (fm_cons eL_law_207 (fm_cons eL_law_208 (fm_cons eL_law_209 (fm_cons eL_law_210 (fm_cons eL_law_211 (fm_cons eL_law_212 (fm_cons eL_law_213 (fm_cons eL_law_214 (fm_cons eL_law_215 (fm_cons eL_law_216 (fm_cons eL_law_217 (fm_cons eL_law_218 (fm_cons eL_law_219 (fm_cons eL_law_220 (fm_cons eL_law_223 (fm_cons eL_law_224 (fm_cons eL_law_225 (fm_cons eL_law_226 (fm_cons eL_law_227 (fm_cons eL_law_228 (fm_cons eL_law_229 (fm_cons eL_law_230 (fm_cons eL_law_231 (fm_cons eL_law_232 (fm_cons eL_law_233 (fm_cons eL_law_234 (fm_cons eL_law_235 (fm_cons eL_law_236 (fm_cons eL_law_237 (fm_cons eL_law_238 (fm_cons eL_law_239 (fm_cons eL_law_242 (fm_cons eL_law_245 (fm_cons eL_law_246 (fm_cons eL_law_247 (fm_cons eL_law_248 (fm_cons eL_law_249 (fm_cons eL_law_250 (fm_cons eL_law_251 (fm_cons eL_law_252 (fm_cons eL_law_253 (fm_cons eL_law_254 (fm_cons eL_law_255 (fm_cons eL_law_256 (fm_cons eL_law_257 (fm_cons eL_law_258 (fm_cons eL_law_259 (fm_cons eL_law_260 (fm_cons eL_law_261 (fm_cons eL_law_262 (fm_cons eL_law_263 (fm_cons eL_law_266 (fm_cons eL_law_267 (fm_cons eL_law_268 (fm_cons eL_law_269 (fm_cons eL_law_270 (fm_cons eL_law_271 (fm_cons eL_law_272 (fm_cons eL_law_273 (fm_cons eL_law_274 (fm_cons eL_law_275 (fm_cons eL_law_276 (fm_cons eL_law_277 (fm_cons eL_law_278 (fm_cons eL_law_279 (fm_cons eL_law_280 (fm_cons eL_law_281 (fm_cons eL_law_282 (fm_cons eL_law_285 (fm_cons eL_law_288 (fm_cons eL_law_289 (fm_cons eL_law_290 (fm_cons eL_law_291 (fm_cons eL_law_292 (fm_cons eL_law_293 (fm_cons eL_law_294 (fm_cons eL_law_295 (fm_cons eL_law_296 (fm_cons eL_law_297 (fm_cons eL_law_298 (fm_cons eL_law_299 (fm_cons eL_law_300 (fm_cons eL_law_301 (fm_cons eL_law_302 (fm_cons eL_law_303 (fm_cons eL_law_304 (fm_cons eL_law_305 (fm_cons eL_law_306 (fm_cons eL_law_307 (fm_cons eL_law_308 (fm_cons eL_law_309 (fm_cons eL_law_310 (fm_cons eL_law_311 (fm_cons eL_law_312 (fm_cons eL_law_313 (fm_cons eL_law_314 (fm_cons eL_law_315 (fm_cons eL_law_316 (fm_cons eL_law_319 (fm_cons eL_law_320 (fm_cons eL_law_321 (fm_cons eL_law_322 (fm_cons eL_law_323 (fm_cons eL_law_324 (fm_cons eL_law_325 (fm_cons eL_law_326 (fm_cons eL_law_327 (fm_cons eL_law_328 (fm_cons eL_law_329 (fm_cons eL_law_330 (fm_cons eL_law_331 (fm_cons eL_law_332 (fm_cons eL_law_333 (fm_cons eL_law_334 (fm_cons eL_law_335 (fm_cons eL_law_336 (fm_cons eL_law_337 (fm_cons eL_law_338 (fm_cons eL_law_339 (fm_cons eL_law_340 (fm_cons eL_law_341 (fm_cons eL_law_342 (fm_cons eL_law_343 (fm_cons eL_law_344 (fm_cons eL_law_345 (fm_cons eL_law_348 (fm_cons eL_law_351 (fm_cons eL_law_352 (fm_cons eL_law_353 (fm_cons eL_law_354 (fm_cons eL_law_355 (fm_cons eL_law_356 (fm_cons eL_law_357 (fm_cons eL_law_358 (fm_cons eL_law_359 (fm_cons eL_law_362 (fm_cons eL_law_363 (fm_cons eL_law_364 (fm_cons eL_law_365 (fm_cons eL_law_366 (fm_cons eL_law_367 (fm_cons eL_law_368 (fm_cons eL_law_371 (fm_cons eL_law_374 (fm_cons eL_law_375 (fm_cons eL_law_376 (fm_cons eL_law_377 (fm_cons eL_law_378 (fm_cons eL_law_379 (fm_cons eL_law_380 (fm_cons eL_law_381 (fm_cons eL_law_382 (fm_cons eL_law_385 (fm_cons eL_law_386 (fm_cons eL_law_387 (fm_cons eL_law_388 (fm_cons eL_law_389 (fm_cons eL_law_390 (fm_cons eL_law_391 (fm_cons eL_law_394 (fm_cons eL_law_397 (fm_cons eL_law_398 (fm_cons eL_law_399 (fm_cons eL_law_400 (fm_cons eL_law_403 (fm_cons eL_law_404 (fm_cons eL_law_407 (fm_cons eL_law_410 (fm_cons eL_law_411 (fm_cons eL_law_412 (fm_cons eL_law_413 (fm_cons eL_law_416 (fm_cons eL_law_417 (fm_cons eL_law_420 (fm_cons eL_law_423 (fm_cons eL_law_424 (fm_cons eL_law_425 (fm_cons eL_law_426 (fm_cons eL_law_429 (fm_cons eL_law_430 (fm_cons eL_law_433 (fm_cons eL_law_436 (fm_cons eL_law_437 (fm_cons eL_law_438 (fm_cons eL_law_439 (fm_cons eL_law_440 (fm_cons eL_law_441 (fm_cons eL_law_442 (fm_cons eL_law_443 (fm_cons eL_law_444 (fm_cons eL_law_447 (fm_cons eL_law_448 (fm_cons eL_law_449 (fm_cons eL_law_450 (fm_cons eL_law_451 (fm_cons eL_law_452 (fm_cons eL_law_453 (fm_cons eL_law_456 (fm_cons eL_law_459 (fm_cons eL_law_460 (fm_cons eL_law_461 (fm_cons eL_law_462 (fm_cons eL_law_463 (fm_cons eL_law_464 (fm_cons eL_law_465 (fm_cons eL_law_466 (fm_cons eL_law_467 (fm_cons eL_law_468 (fm_cons eL_law_469 (fm_cons eL_law_470 (fm_cons eL_law_471 (fm_cons eL_law_472 (fm_cons eL_law_475 (fm_cons eL_law_476 (fm_cons eL_law_477 (fm_cons eL_law_478 (fm_cons eL_law_479 (fm_cons eL_law_480 (fm_cons eL_law_481 (fm_cons eL_law_482 (fm_cons eL_law_483 (fm_cons eL_law_484 (fm_cons eL_law_485 (fm_cons eL_law_486 (fm_cons eL_law_489 (fm_cons eL_law_492 (fm_cons eL_law_493 (fm_cons eL_law_494 (fm_cons eL_law_495 (fm_cons eL_law_496 (fm_cons eL_law_497 (fm_cons eL_law_498 (fm_cons eL_law_499 (fm_cons eL_law_500 (fm_cons eL_law_501 (fm_cons eL_law_502 (fm_cons eL_law_503 (fm_cons eL_law_504 (fm_cons eL_law_505 (fm_cons eL_law_508 (fm_cons eL_law_509 (fm_cons eL_law_510 (fm_cons eL_law_511 (fm_cons eL_law_512 (fm_cons eL_law_513 (fm_cons eL_law_514 (fm_cons eL_law_515 (fm_cons eL_law_516 (fm_cons eL_law_517 (fm_cons eL_law_518 (fm_cons eL_law_519 (fm_cons eL_law_522 (fm_cons eL_law_525 (fm_cons eL_law_526 (fm_cons eL_law_527 (fm_cons eL_law_528 (fm_cons eL_law_529 (fm_cons eL_law_530 (fm_cons eL_law_531 (fm_cons eL_law_532 (fm_cons eL_law_533 (fm_cons eL_law_534 (fm_cons eL_law_535 (fm_cons eL_law_536 (fm_cons eL_law_537 (fm_cons eL_law_538 (fm_cons eL_law_541 (fm_cons eL_law_542 (fm_cons eL_law_543 (fm_cons eL_law_544 (fm_cons eL_law_545 (fm_cons eL_law_546 (fm_cons eL_law_547 (fm_cons eL_law_548 (fm_cons eL_law_549 (fm_cons eL_law_550 (fm_cons eL_law_551 (fm_cons eL_law_552 (fm_cons eL_law_555 (fm_cons eL_law_558 (fm_cons eL_law_559 (fm_cons eL_law_560 (fm_cons eL_law_561 (fm_cons eL_law_562 (fm_cons eL_law_563 (fm_cons eL_law_564 (fm_cons eL_law_565 (fm_cons eL_law_566 (fm_cons eL_law_567 (fm_cons eL_law_568 (fm_cons eL_law_569 (fm_cons eL_law_570 (fm_cons eL_law_571 (fm_cons eL_law_574 (fm_cons eL_law_575 (fm_cons eL_law_576 (fm_cons eL_law_577 (fm_cons eL_law_578 (fm_cons eL_law_579 (fm_cons eL_law_580 (fm_cons eL_law_581 (fm_cons eL_law_582 (fm_cons eL_law_583 (fm_cons eL_law_584 (fm_cons eL_law_585 (fm_cons eL_law_588 (fm_cons eL_law_591 (fm_cons eL_law_592 (fm_cons eL_law_593 (fm_cons eL_law_594 (fm_cons eL_law_595 (fm_cons eL_law_596 (fm_cons eL_law_597 (fm_cons eL_law_598 (fm_cons eL_law_599 (fm_cons eL_law_602 (fm_cons eL_law_603 (fm_cons eL_law_604 (fm_cons eL_law_605 (fm_cons eL_law_606 (fm_cons eL_law_607 (fm_cons eL_law_608 (fm_cons eL_law_611 (fm_cons eL_law_614 (fm_cons eL_law_615 (fm_cons eL_law_616 (fm_cons eL_law_617 (fm_cons eL_law_618 (fm_cons eL_law_619 (fm_cons eL_law_620 (fm_cons eL_law_621 (fm_cons eL_law_622 (fm_cons eL_law_623 (fm_cons eL_law_624 (fm_cons eL_law_625 (fm_cons eL_law_626 (fm_cons eL_law_627 (fm_cons eL_law_630 (fm_cons eL_law_631 (fm_cons eL_law_632 (fm_cons eL_law_633 (fm_cons eL_law_634 (fm_cons eL_law_635 (fm_cons eL_law_636 (fm_cons eL_law_637 (fm_cons eL_law_638 (fm_cons eL_law_639 (fm_cons eL_law_640 (fm_cons eL_law_641 (fm_cons eL_law_644 (fm_cons eL_law_647 (fm_cons eL_law_648 (fm_cons eL_law_649 (fm_cons eL_law_650 (fm_cons eL_law_651 (fm_cons eL_law_652 (fm_cons eL_law_653 (fm_cons eL_law_654 (fm_cons eL_law_655 (fm_cons eL_law_656 (fm_cons eL_law_657 (fm_cons eL_law_658 (fm_cons eL_law_659 (fm_cons eL_law_660 (fm_cons eL_law_663 (fm_cons eL_law_664 (fm_cons eL_law_665 (fm_cons eL_law_666 (fm_cons eL_law_667 (fm_cons eL_law_668 (fm_cons eL_law_669 (fm_cons eL_law_670 (fm_cons eL_law_671 (fm_cons eL_law_672 (fm_cons eL_law_673 (fm_cons eL_law_674 (fm_cons eL_law_677 (fm_cons eL_law_680 (fm_cons eL_law_681 (fm_cons eL_law_682 (fm_cons eL_law_683 (fm_cons eL_law_684 (fm_cons eL_law_685 (fm_cons eL_law_686 (fm_cons eL_law_687 (fm_cons eL_law_688 (fm_cons eL_law_691 (fm_cons eL_law_692 (fm_cons eL_law_693 (fm_cons eL_law_694 (fm_cons eL_law_695 (fm_cons eL_law_696 (fm_cons eL_law_697 (fm_cons eL_law_700 (fm_cons eL_law_703 (fm_cons eL_law_704 (fm_cons eL_law_705 (fm_cons eL_law_706 (fm_cons eL_law_707 (fm_cons eL_law_708 (fm_cons eL_law_709 (fm_cons eL_law_710 (fm_cons eL_law_711 (fm_cons eL_law_712 (fm_cons eL_law_713 (fm_cons eL_law_714 (fm_cons eL_law_715 (fm_cons eL_law_716 (fm_cons eL_law_717 (fm_cons eL_law_718 (fm_cons eL_law_719 (fm_cons eL_law_720 (fm_cons eL_law_721 (fm_cons eL_law_724 (fm_cons eL_law_725 (fm_cons eL_law_726 (fm_cons eL_law_727 (fm_cons eL_law_728 (fm_cons eL_law_729 (fm_cons eL_law_730 (fm_cons eL_law_731 (fm_cons eL_law_732 (fm_cons eL_law_733 (fm_cons eL_law_734 (fm_cons eL_law_735 (fm_cons eL_law_736 (fm_cons eL_law_737 (fm_cons eL_law_738 (fm_cons eL_law_739 (fm_cons eL_law_740 (fm_cons eL_law_743 (fm_cons eL_law_746 (fm_cons eL_law_747 (fm_cons eL_law_748 (fm_cons eL_law_749 (fm_cons eL_law_750 (fm_cons eL_law_751 (fm_cons eL_law_752 (fm_cons eL_law_753 (fm_cons eL_law_754 (fm_cons eL_law_755 (fm_cons eL_law_756 (fm_cons eL_law_757 (fm_cons eL_law_758 (fm_cons eL_law_759 (fm_cons eL_law_760 (fm_cons eL_law_761 (fm_cons eL_law_762 (fm_cons eL_law_763 (fm_cons eL_law_764 (fm_cons eL_law_767 (fm_cons eL_law_768 (fm_cons eL_law_769 (fm_cons eL_law_770 (fm_cons eL_law_771 (fm_cons eL_law_772 (fm_cons eL_law_773 (fm_cons eL_law_774 (fm_cons eL_law_775 (fm_cons eL_law_776 (fm_cons eL_law_777 (fm_cons eL_law_778 (fm_cons eL_law_779 (fm_cons eL_law_780 (fm_cons eL_law_781 (fm_cons eL_law_782 (fm_cons eL_law_783 (fm_cons eL_law_786 (fm_cons eL_law_789 (fm_cons eL_law_790 (fm_cons eL_law_791 (fm_cons eL_law_792 (fm_cons eL_law_793 (fm_cons eL_law_794 (fm_cons eL_law_795 (fm_cons eL_law_796 (fm_cons eL_law_797 (fm_cons eL_law_800 (fm_cons eL_law_801 (fm_cons eL_law_802 (fm_cons eL_law_803 (fm_cons eL_law_804 (fm_cons eL_law_805 (fm_cons eL_law_806 (fm_cons eL_law_809 (fm_cons eL_law_812 (fm_cons eL_law_813 (fm_cons eL_law_814 (fm_cons eL_law_815 (fm_cons eL_law_816 (fm_cons eL_law_817 (fm_cons eL_law_818 (fm_cons eL_law_819 (fm_cons eL_law_820 (fm_cons eL_law_823 (fm_cons eL_law_824 (fm_cons eL_law_825 (fm_cons eL_law_826 (fm_cons eL_law_827 (fm_cons eL_law_828 (fm_cons eL_law_829 (fm_cons eL_law_832 (fm_cons eL_law_835 (fm_cons eL_law_836 (fm_cons eL_law_837 (fm_cons eL_law_838 (fm_cons eL_law_839 (fm_cons eL_law_840 (fm_cons eL_law_841 (fm_cons eL_law_842 (fm_cons eL_law_843 (fm_cons eL_law_844 (fm_cons eL_law_845 (fm_cons eL_law_846 (fm_cons eL_law_847 (fm_cons eL_law_848 (fm_cons eL_law_851 (fm_cons eL_law_852 (fm_cons eL_law_853 (fm_cons eL_law_854 (fm_cons eL_law_855 (fm_cons eL_law_856 (fm_cons eL_law_857 (fm_cons eL_law_858 (fm_cons eL_law_859 (fm_cons eL_law_860 (fm_cons eL_law_861 (fm_cons eL_law_862 (fm_cons eL_law_865 (fm_cons eL_law_868 (fm_cons eL_law_869 (fm_cons eL_law_870 (fm_cons eL_law_871 (fm_cons eL_law_872 (fm_cons eL_law_873 (fm_cons eL_law_874 (fm_cons eL_law_875 (fm_cons eL_law_876 (fm_cons eL_law_877 (fm_cons eL_law_878 (fm_cons eL_law_879 (fm_cons eL_law_880 (fm_cons eL_law_881 (fm_cons eL_law_882 (fm_cons eL_law_883 (fm_cons eL_law_884 (fm_cons eL_law_885 (fm_cons eL_law_886 (fm_cons eL_law_889 (fm_cons eL_law_890 (fm_cons eL_law_891 (fm_cons eL_law_892 (fm_cons eL_law_893 (fm_cons eL_law_894 (fm_cons eL_law_895 (fm_cons eL_law_896 (fm_cons eL_law_897 (fm_cons eL_law_898 (fm_cons eL_law_899 (fm_cons eL_law_900 (fm_cons eL_law_901 (fm_cons eL_law_902 (fm_cons eL_law_903 (fm_cons eL_law_904 (fm_cons eL_law_905 (fm_cons eL_law_908 (fm_cons eL_law_911 (fm_cons eL_law_912 (fm_cons eL_law_913 (fm_cons eL_law_914 (fm_cons eL_law_915 (fm_cons eL_law_916 (fm_cons eL_law_917 (fm_cons eL_law_918 (fm_cons eL_law_919 (fm_cons eL_law_920 (fm_cons eL_law_921 (fm_cons eL_law_922 (fm_cons eL_law_923 (fm_cons eL_law_924 (fm_cons eL_law_925 (fm_cons eL_law_926 (fm_cons eL_law_927 (fm_cons eL_law_928 (fm_cons eL_law_929 (fm_cons eL_law_932 (fm_cons eL_law_933 (fm_cons eL_law_934 (fm_cons eL_law_935 (fm_cons eL_law_936 (fm_cons eL_law_937 (fm_cons eL_law_938 (fm_cons eL_law_939 (fm_cons eL_law_940 (fm_cons eL_law_941 (fm_cons eL_law_942 (fm_cons eL_law_943 (fm_cons eL_law_944 (fm_cons eL_law_945 (fm_cons eL_law_946 (fm_cons eL_law_947 (fm_cons eL_law_948 (fm_cons eL_law_951 (fm_cons eL_law_954 (fm_cons eL_law_955 (fm_cons eL_law_956 (fm_cons eL_law_957 (fm_cons eL_law_958 (fm_cons eL_law_959 (fm_cons eL_law_960 (fm_cons eL_law_961 (fm_cons eL_law_962 (fm_cons eL_law_963 (fm_cons eL_law_964 (fm_cons eL_law_965 (fm_cons eL_law_966 (fm_cons eL_law_967 (fm_cons eL_law_968 (fm_cons eL_law_969 (fm_cons eL_law_970 (fm_cons eL_law_971 (fm_cons eL_law_972 (fm_cons eL_law_975 (fm_cons eL_law_976 (fm_cons eL_law_977 (fm_cons eL_law_978 (fm_cons eL_law_979 (fm_cons eL_law_980 (fm_cons eL_law_981 (fm_cons eL_law_982 (fm_cons eL_law_983 (fm_cons eL_law_984 (fm_cons eL_law_985 (fm_cons eL_law_986 (fm_cons eL_law_987 (fm_cons eL_law_988 (fm_cons eL_law_989 (fm_cons eL_law_990 (fm_cons eL_law_991 (fm_cons eL_law_994 (fm_cons eL_law_997 (fm_cons eL_law_998 (fm_cons eL_law_999 (fm_cons eL_law_1000 (fm_cons eL_law_1001 (fm_cons eL_law_1002 (fm_cons eL_law_1003 (fm_cons eL_law_1004 (fm_cons eL_law_1005 (fm_cons eL_law_1006 (fm_cons eL_law_1007 (fm_cons eL_law_1008 (fm_cons eL_law_1009 (fm_cons eL_law_1010 (fm_cons eL_law_1013 (fm_cons eL_law_1014 (fm_cons eL_law_1015 (fm_cons eL_law_1016 (fm_cons eL_law_1017 (fm_cons eL_law_1018 (fm_cons eL_law_1019 (fm_cons eL_law_1020 (fm_cons eL_law_1021 (fm_cons eL_law_1022 (fm_cons eL_law_1023 (fm_cons eL_law_1024 (fm_cons eL_law_1027 (fm_cons eL_law_1030 (fm_cons eL_law_1031 (fm_cons eL_law_1032 (fm_cons eL_law_1033 (fm_cons eL_law_1034 (fm_cons eL_law_1035 (fm_cons eL_law_1036 (fm_cons eL_law_1037 (fm_cons eL_law_1038 (fm_cons eL_law_1039 (fm_cons eL_law_1040 (fm_cons eL_law_1041 (fm_cons eL_law_1042 (fm_cons eL_law_1043 (fm_cons eL_law_1044 (fm_cons eL_law_1045 (fm_cons eL_law_1046 (fm_cons eL_law_1047 (fm_cons eL_law_1048 (fm_cons eL_law_1049 (fm_cons eL_law_1050 (fm_cons eL_law_1051 (fm_cons eL_law_1052 (fm_cons eL_law_1053 (fm_cons eL_law_1054 (fm_cons eL_law_1055 (fm_cons eL_law_1056 (fm_cons eL_law_1057 (fm_cons eL_law_1058 (fm_cons eL_law_1059 (fm_cons eL_law_1060 (fm_cons eL_law_1062 (fm_cons eL_law_1063 (fm_cons eL_law_1064 (fm_cons eL_law_1067 (fm_cons eL_law_1068 (fm_cons eL_law_1069 (fm_cons eL_law_1070 (fm_cons eL_law_1071 (fm_cons eL_law_1072 (fm_cons eL_law_1073 (fm_cons eL_law_1074 (fm_cons eL_law_1075 (fm_cons eL_law_1076 (fm_cons eL_law_1077 (fm_cons eL_law_1078 (fm_cons eL_law_1079 (fm_cons eL_law_1080 (fm_cons eL_law_1081 (fm_cons eL_law_1082 (fm_cons eL_law_1083 (fm_cons eL_law_1084 (fm_cons eL_law_1085 (fm_cons eL_law_1086 (fm_cons eL_law_1087 (fm_cons eL_law_1088 (fm_cons eL_law_1089 (fm_cons eL_law_1090 (fm_cons eL_law_1091 (fm_cons eL_law_1092 (fm_cons eL_law_1093 (fm_cons eL_law_1094 (fm_cons eL_law_1095 (fm_cons eL_law_1097 (fm_cons eL_law_1098 (fm_cons eL_law_1099 (fm_cons eL_law_1102 (fm_cons eL_law_1105 (fm_cons eL_law_1106 (fm_cons eL_law_1107 (fm_cons eL_law_1108 (fm_cons eL_law_1109 (fm_cons eL_law_1110 (fm_cons eL_law_1111 (fm_cons eL_law_1112 (fm_cons eL_law_1113 (fm_cons eL_law_1114 (fm_cons eL_law_1115 (fm_cons eL_law_1116 (fm_cons eL_law_1117 (fm_cons eL_law_1118 (fm_cons eL_law_1119 (fm_cons eL_law_1120 (fm_cons eL_law_1121 (fm_cons eL_law_1122 (fm_cons eL_law_1123 (fm_cons eL_law_1124 (fm_cons eL_law_1125 (fm_cons eL_law_1126 (fm_cons eL_law_1127 (fm_cons eL_law_1128 (fm_cons eL_law_1129 (fm_cons eL_law_1130 (fm_cons eL_law_1131 (fm_cons eL_law_1132 (fm_cons eL_law_1133 (fm_cons eL_law_1136 (fm_cons eL_law_1137 (fm_cons eL_law_1138 (fm_cons eL_law_1139 (fm_cons eL_law_1140 (fm_cons eL_law_1141 (fm_cons eL_law_1142 (fm_cons eL_law_1143 (fm_cons eL_law_1144 (fm_cons eL_law_1145 (fm_cons eL_law_1146 (fm_cons eL_law_1147 (fm_cons eL_law_1148 (fm_cons eL_law_1149 (fm_cons eL_law_1150 (fm_cons eL_law_1151 (fm_cons eL_law_1152 (fm_cons eL_law_1153 (fm_cons eL_law_1154 (fm_cons eL_law_1155 (fm_cons eL_law_1156 (fm_cons eL_law_1157 (fm_cons eL_law_1158 (fm_cons eL_law_1159 (fm_cons eL_law_1160 (fm_cons eL_law_1161 (fm_cons eL_law_1162 (fm_cons eL_law_1165 (fm_cons eL_law_1168 (fm_cons eL_law_1169 (fm_cons eL_law_1170 (fm_cons eL_law_1171 (fm_cons eL_law_1172 (fm_cons eL_law_1173 (fm_cons eL_law_1174 (fm_cons eL_law_1175 (fm_cons eL_law_1176 (fm_cons eL_law_1177 (fm_cons eL_law_1178 (fm_cons eL_law_1179 (fm_cons eL_law_1180 (fm_cons eL_law_1181 (fm_cons eL_law_1182 (fm_cons eL_law_1183 (fm_cons eL_law_1184 (fm_cons eL_law_1185 (fm_cons eL_law_1186 (fm_cons eL_law_1187 (fm_cons eL_law_1188 (fm_cons eL_law_1189 (fm_cons eL_law_1190 (fm_cons eL_law_1191 (fm_cons eL_law_1194 (fm_cons eL_law_1195 (fm_cons eL_law_1196 (fm_cons eL_law_1197 (fm_cons eL_law_1198 (fm_cons eL_law_1199 (fm_cons eL_law_1200 (fm_cons eL_law_1201 (fm_cons eL_law_1202 (fm_cons eL_law_1203 (fm_cons eL_law_1204 (fm_cons eL_law_1205 (fm_cons eL_law_1206 (fm_cons eL_law_1207 (fm_cons eL_law_1208 (fm_cons eL_law_1209 (fm_cons eL_law_1210 (fm_cons eL_law_1211 (fm_cons eL_law_1212 (fm_cons eL_law_1213 (fm_cons eL_law_1214 (fm_cons eL_law_1215 (fm_cons eL_law_1218 (fm_cons eL_law_1221 (fm_cons eL_law_1222 (fm_cons eL_law_1223 (fm_cons eL_law_1224 (fm_cons eL_law_1225 (fm_cons eL_law_1226 (fm_cons eL_law_1227 (fm_cons eL_law_1228 (fm_cons eL_law_1229 (fm_cons eL_law_1230 (fm_cons eL_law_1231 (fm_cons eL_law_1232 (fm_cons eL_law_1233 (fm_cons eL_law_1234 (fm_cons eL_law_1235 (fm_cons eL_law_1236 (fm_cons eL_law_1237 (fm_cons eL_law_1238 (fm_cons eL_law_1239 (fm_cons eL_law_1240 (fm_cons eL_law_1241 (fm_cons eL_law_1242 (fm_cons eL_law_1243 (fm_cons eL_law_1244 (fm_cons eL_law_1247 (fm_cons eL_law_1248 (fm_cons eL_law_1249 (fm_cons eL_law_1250 (fm_cons eL_law_1251 (fm_cons eL_law_1252 (fm_cons eL_law_1253 (fm_cons eL_law_1254 (fm_cons eL_law_1255 (fm_cons eL_law_1256 (fm_cons eL_law_1257 (fm_cons eL_law_1258 (fm_cons eL_law_1259 (fm_cons eL_law_1260 (fm_cons eL_law_1261 (fm_cons eL_law_1262 (fm_cons eL_law_1263 (fm_cons eL_law_1264 (fm_cons eL_law_1265 (fm_cons eL_law_1266 (fm_cons eL_law_1267 (fm_cons eL_law_1268 (fm_cons eL_law_1271 (fm_cons eL_law_1272 (fm_cons eL_law_1275 (fm_cons eL_law_1276 (fm_cons eL_law_1277 (fm_cons eL_law_1278 (fm_cons eL_law_1279 (fm_cons eL_law_1280 (fm_cons eL_law_1281 (fm_cons eL_law_1282 (fm_cons eL_law_1283 (fm_cons eL_law_1284 (fm_cons eL_law_1285 (fm_cons eL_law_1286 (fm_cons eL_law_1287 (fm_cons eL_law_1288 (fm_cons eL_law_1289 (fm_cons eL_law_1290 (fm_cons eL_law_1291 (fm_cons eL_law_1292 (fm_cons eL_law_1293 (fm_cons eL_law_1296 (fm_cons eL_law_1297 (fm_cons eL_law_1298 (fm_cons eL_law_1299 (fm_cons eL_law_1300 (fm_cons eL_law_1301 (fm_cons eL_law_1302 (fm_cons eL_law_1303 (fm_cons eL_law_1304 (fm_cons eL_law_1305 (fm_cons eL_law_1306 (fm_cons eL_law_1307 (fm_cons eL_law_1308 (fm_cons eL_law_1309 (fm_cons eL_law_1310 (fm_cons eL_law_1311 (fm_cons eL_law_1312 (fm_cons eL_law_1315 (fm_cons eL_law_1318 (fm_cons eL_law_1319 (fm_cons eL_law_1320 (fm_cons eL_law_1321 (fm_cons eL_law_1322 (fm_cons eL_law_1323 (fm_cons eL_law_1324 (fm_cons eL_law_1325 (fm_cons eL_law_1326 (fm_cons eL_law_1329 (fm_cons eL_law_1330 (fm_cons eL_law_1331 (fm_cons eL_law_1332 (fm_cons eL_law_1333 (fm_cons eL_law_1334 (fm_cons eL_law_1335 (fm_cons eL_law_1338 (fm_cons eL_law_1341 (fm_cons eL_law_1342 (fm_cons eL_law_1343 (fm_cons eL_law_1344 (fm_cons eL_law_1345 (fm_cons eL_law_1346 (fm_cons eL_law_1347 (fm_cons eL_law_1348 (fm_cons eL_law_1349 (fm_cons eL_law_1352 (fm_cons eL_law_1353 (fm_cons eL_law_1354 (fm_cons eL_law_1355 (fm_cons eL_law_1356 (fm_cons eL_law_1357 (fm_cons eL_law_1358 (fm_cons eL_law_1361 (fm_cons eL_law_1364 (fm_cons eL_law_1365 (fm_cons eL_law_1366 (fm_cons eL_law_1367 (fm_cons eL_law_1368 (fm_cons eL_law_1369 (fm_cons eL_law_1370 (fm_cons eL_law_1371 (fm_cons eL_law_1372 (fm_cons eL_law_1375 (fm_cons eL_law_1376 (fm_cons eL_law_1377 (fm_cons eL_law_1378 (fm_cons eL_law_1379 (fm_cons eL_law_1380 (fm_cons eL_law_1381 (fm_cons eL_law_1384 (fm_cons eL_law_1387 (fm_cons eL_law_1388 (fm_cons eL_law_1389 (fm_cons eL_law_1390 (fm_cons eL_law_1391 (fm_cons eL_law_1392 (fm_cons eL_law_1393 (fm_cons eL_law_1394 (fm_cons eL_law_1395 (fm_cons eL_law_1396 (fm_cons eL_law_1397 (fm_cons eL_law_1398 (fm_cons eL_law_1399 (fm_cons eL_law_1400 (fm_cons eL_law_1403 (fm_cons eL_law_1404 (fm_cons eL_law_1405 (fm_cons eL_law_1406 (fm_cons eL_law_1407 (fm_cons eL_law_1408 (fm_cons eL_law_1409 (fm_cons eL_law_1410 (fm_cons eL_law_1411 (fm_cons eL_law_1412 (fm_cons eL_law_1413 (fm_cons eL_law_1414 (fm_cons eL_law_1417 (fm_cons eL_law_1420 (fm_cons eL_law_1421 (fm_cons eL_law_1422 (fm_cons eL_law_1423 (fm_cons eL_law_1424 (fm_cons eL_law_1425 (fm_cons eL_law_1426 (fm_cons eL_law_1427 (fm_cons eL_law_1428 (fm_cons eL_law_1429 (fm_cons eL_law_1430 (fm_cons eL_law_1431 (fm_cons eL_law_1432 (fm_cons eL_law_1433 (fm_cons eL_law_1436 (fm_cons eL_law_1437 (fm_cons eL_law_1438 (fm_cons eL_law_1439 (fm_cons eL_law_1440 (fm_cons eL_law_1441 (fm_cons eL_law_1442 (fm_cons eL_law_1443 (fm_cons eL_law_1444 (fm_cons eL_law_1445 (fm_cons eL_law_1446 (fm_cons eL_law_1447 (fm_cons eL_law_1450 (fm_cons eL_law_1453 (fm_cons eL_law_1454 (fm_cons eL_law_1455 (fm_cons eL_law_1456 (fm_cons eL_law_1457 (fm_cons eL_law_1458 (fm_cons eL_law_1459 (fm_cons eL_law_1460 (fm_cons eL_law_1461 (fm_cons eL_law_1464 (fm_cons eL_law_1465 (fm_cons eL_law_1466 (fm_cons eL_law_1467 (fm_cons eL_law_1468 (fm_cons eL_law_1469 (fm_cons eL_law_1470 (fm_cons eL_law_1473 (fm_cons eL_law_1476 (fm_cons eL_law_1477 (fm_cons eL_law_1478 (fm_cons eL_law_1479 (fm_cons eL_law_1480 (fm_cons eL_law_1481 (fm_cons eL_law_1482 (fm_cons eL_law_1483 (fm_cons eL_law_1484 (fm_cons eL_law_1487 (fm_cons eL_law_1488 (fm_cons eL_law_1489 (fm_cons eL_law_1490 (fm_cons eL_law_1491 (fm_cons eL_law_1492 (fm_cons eL_law_1493 (fm_cons eL_law_1496 (fm_cons eL_law_1499 (fm_cons eL_law_1500 (fm_cons eL_law_1501 (fm_cons eL_law_1502 (fm_cons eL_law_1505 (fm_cons eL_law_1506 (fm_cons eL_law_1509 (fm_cons eL_law_1512 (fm_cons eL_law_1513 (fm_cons eL_law_1514 (fm_cons eL_law_1517 (fm_cons eL_law_1520 (fm_cons eL_law_1521 (fm_nil))))))))))))))))))))))))))))))))))))))))))))))))))))))))))))))))))))))))))))))))))))))))))))))))))))))))))))))))))))))))))))))))))))))))))))))))))))))))))))))))))))))))))))))))))))))))))))))))))))))))))))))))))))))))))))))))))))))))))))))))))))))))))))))))))))))))))))))))))))))))))))))))))))))))))))))))))))))))))))))))))))))))))))))))))))))))))))))))))))))))))))))))))))))))))))))))))))))))))))))))))))))))))))))))))))))))))))))))))))))))))))))))))))))))))))))))))))))))))))))))))))))))))))))))))))))))))))))))))))))))))))))))))))))))))))))))))))))))))))))))))))))))))))))))))))))))))))))))))))))))))))))))))))))))))))))))))))))))))))))))))))))))))))))))))))))))))))))))))))))))))))))))))))))))))))))))))))))))))))))))))))))))))))))))))))))))))))))))))))))))))))))))))))))))))))))))))))))))))))))))))))))))))))))))))))))))))))))))))))))))))))))))))))))))))))))))))))))))))))))))))))))))))))))))))))))))))))))))))))))))))))))))))))))))))))))))))))))))))))))))))))))))))))))))))))))))))))))))))))))))))))))))))))))))))))))))))))))))))))))))))))))))))))))))))))))))))))))))))))))))))))))))))))))))))))
theorem zL_law : SwZ nL_law (Mt mL_law 4) := wholeZ (mi := nL_law) (cd := mL_law) aL_law rfl (HdZ.none rfl)
