/-! rows of validity (printed by gen/valid.py) -/
set_option maxRecDepth 100000
theorem vi_284_0 : VI 284 0 (kN (i_newo 0 52)) := sn_newo (kd mk_284 dL_law_0) (by decide) rfl dv_0 in_X0 tyX0_ok (kcl mk_284 q161) q162 q134
theorem vi_284_3 : VI 284 3 (kN (i_dup)) := (sp_dup (kd mk_284 dL_law_3)).sn
theorem vi_284_4 : VI 284 4 (kC (i_inI 187 0)) := v_I mk_284 mk_187 ck_187 cc_187 dL_law_4 q163
theorem vi_284_7 : VI 284 7 (kN (i_astore 1 1)) := (sp_astore_n (kd mk_284 dL_law_7) (kl mk_284 (by decide))).sn
theorem vi_284_8 : VI 284 8 (kN (i_newo 3 35)) := sn_newo (kd mk_284 dL_law_8) (by decide) rfl dv_3 in_X3 tyX3_ok (kcl mk_284 q1290) q1291 q137
theorem vi_284_11 : VI 284 11 (kN (i_dup)) := (sp_dup (kd mk_284 dL_law_11)).sn
theorem vi_284_12 : VI 284 12 (kC (i_inI 41 0)) := v_I mk_284 mk_41 ck_41 cc_41 dL_law_12 q1292
theorem vi_284_15 : VI 284 15 (kN (i_astore 2 1)) := (sp_astore_n (kd mk_284 dL_law_15) (kl mk_284 (by decide))).sn
theorem vi_284_16 : VI 284 16 (kN (i_ic (nI 0) 1)) := (sp_iconst (kd mk_284 dL_law_16) (by decide +kernel)).sn
theorem vi_284_17 : VI 284 17 (kN (i_istore 3 1)) := (sp_istore_n (kd mk_284 dL_law_17) (kl mk_284 (by decide))).sn
theorem vi_284_18 : VI 284 18 (kN (i_iload 3 1)) := (sp_iload_n (kd mk_284 dL_law_18)).sn
theorem vi_284_19 : VI 284 19 (kN (i_aload 0 1)) := (sp_aload_n (kd mk_284 dL_law_19)).sn
theorem vi_284_20 : VI 284 20 (kN (i_alen)) := (sp_alen (kd mk_284 dL_law_20)).sn
theorem vi_284_21 : VI 284 21 (kN (i_ic (nI 6) 2)) := (sp_bipush (kd mk_284 dL_law_21) (by decide +kernel)).sn
theorem vi_284_23 : VI 284 23 (kN (i_bin (fun x y => x - y))) := (sp_isub (kd mk_284 dL_law_23)).sn
theorem vi_284_24 : VI 284 24 (kN (i_cgt 1536)) := (sp_cgt (kd mk_284 dL_law_24) (by decide)).sn
theorem vi_284_27 : VI 284 27 (kN (i_aload 0 1)) := (sp_aload_n (kd mk_284 dL_law_27)).sn
theorem vi_284_28 : VI 284 28 (kN (i_iload 3 1)) := (sp_iload_n (kd mk_284 dL_law_28)).sn
theorem vi_284_29 : VI 284 29 (kN (i_ald 40)) := (sp_sald (kd mk_284 dL_law_29)).sn
theorem vi_284_30 : VI 284 30 (kN (i_ic (nI 63) 2)) := (sp_bipush (kd mk_284 dL_law_30) (by decide +kernel)).sn
theorem vi_284_32 : VI 284 32 (kN (i_bin (fun x y => x &&& y))) := (sp_iand (kd mk_284 dL_law_32)).sn
theorem vi_284_33 : VI 284 33 (kN (i_sw [((nI 0), 216), ((nI 1), 239), ((nI 2), 282), ((nI 3), 325), ((nI 4), 368), ((nI 5), 391), ((nI 6), 424), ((nI 7), 473), ((nI 8), 522), ((nI 9), 545), ((nI 10), 608), ((nI 11), 631), ((nI 12), 654), ((nI 13), 677), ((nI 14), 710), ((nI 15), 743), ((nI 16), 766), ((nI 17), 799), ((nI 18), 822), ((nI 19), 855), ((nI 20), 898), ((nI 21), 931), ((nI 22), 964), ((nI 23), 997), ((nI 24), 1020), ((nI 25), 1063), ((nI 26), 1096), ((nI 27), 1129), ((nI 28), 1172), ((nI 29), 1205), ((nI 30), 1218), ((nI 31), 1241), ((nI 32), 1274), ((nI 33), 1307), ((nI 34), 1330), ((nI 35), 1363), ((nI 36), 1386), ((nI 37), 1409), ((nI 38), 1432), ((nI 39), 1455), ((nI 40), 1468), ((nI 41), 1507)] 1530)) := (sp_tsw (kd mk_284 dL_law_33) (by decide +kernel) (by decide +kernel) (by decide +kernel)).sn
theorem vi_284_216 : VI 284 216 (kN (i_aload 1 1)) := (sp_aload_n (kd mk_284 dL_law_216)).sn
theorem vi_284_217 : VI 284 217 (kN (i_aload 0 1)) := (sp_aload_n (kd mk_284 dL_law_217)).sn
theorem vi_284_218 : VI 284 218 (kN (i_iload 3 1)) := (sp_iload_n (kd mk_284 dL_law_218)).sn
theorem vi_284_219 : VI 284 219 (kN (i_ic (nI 1) 1)) := (sp_iconst (kd mk_284 dL_law_219) (by decide +kernel)).sn
theorem vi_284_220 : VI 284 220 (kN (i_bin (fun x y => x + y))) := (sp_iadd (kd mk_284 dL_law_220)).sn
theorem vi_284_221 : VI 284 221 (kN (i_ald 40)) := (sp_sald (kd mk_284 dL_law_221)).sn
theorem vi_284_222 : VI 284 222 (kC (i_inV 230 1 0)) := v_V mk_284 mk_230 ck_230 ci_230 dL_law_222 q888
theorem vi_284_225 : VI 284 225 (kN (i_aload 2 1)) := (sp_aload_n (kd mk_284 dL_law_225)).sn
theorem vi_284_226 : VI 284 226 (kN (i_aload 0 1)) := (sp_aload_n (kd mk_284 dL_law_226)).sn
theorem vi_284_227 : VI 284 227 (kN (i_iload 3 1)) := (sp_iload_n (kd mk_284 dL_law_227)).sn
theorem vi_284_228 : VI 284 228 (kN (i_ic (nI 1) 1)) := (sp_iconst (kd mk_284 dL_law_228) (by decide +kernel)).sn
theorem vi_284_229 : VI 284 229 (kN (i_bin (fun x y => x + y))) := (sp_iadd (kd mk_284 dL_law_229)).sn
theorem vi_284_230 : VI 284 230 (kN (i_ald 40)) := (sp_sald (kd mk_284 dL_law_230)).sn
theorem vi_284_231 : VI 284 231 (kC (i_inV 52 1 3)) := v_V mk_284 mk_52 ck_52 ci_52 dL_law_231 q1402
theorem vi_284_234 : VI 284 234 (kN (i_ceq 1530)) := (sp_ceq (kd mk_284 dL_law_234) (by decide)).sn
theorem vi_284_237 : VI 284 237 (kN (i_ic (nI 0) 1)) := (sp_iconst (kd mk_284 dL_law_237) (by decide +kernel)).sn
theorem vi_284_238 : VI 284 238 (kR i_zret) := sr_z (kd mk_284 dL_law_238) mk_284.2.2.2
theorem vi_284_239 : VI 284 239 (kN (i_aload 1 1)) := (sp_aload_n (kd mk_284 dL_law_239)).sn
theorem vi_284_240 : VI 284 240 (kN (i_aload 0 1)) := (sp_aload_n (kd mk_284 dL_law_240)).sn
theorem vi_284_241 : VI 284 241 (kN (i_iload 3 1)) := (sp_iload_n (kd mk_284 dL_law_241)).sn
theorem vi_284_242 : VI 284 242 (kN (i_ic (nI 1) 1)) := (sp_iconst (kd mk_284 dL_law_242) (by decide +kernel)).sn
theorem vi_284_243 : VI 284 243 (kN (i_bin (fun x y => x + y))) := (sp_iadd (kd mk_284 dL_law_243)).sn
theorem vi_284_244 : VI 284 244 (kN (i_ald 40)) := (sp_sald (kd mk_284 dL_law_244)).sn
theorem vi_284_245 : VI 284 245 (kN (i_aload 0 1)) := (sp_aload_n (kd mk_284 dL_law_245)).sn
theorem vi_284_246 : VI 284 246 (kN (i_iload 3 1)) := (sp_iload_n (kd mk_284 dL_law_246)).sn
theorem vi_284_247 : VI 284 247 (kN (i_ic (nI 2) 1)) := (sp_iconst (kd mk_284 dL_law_247) (by decide +kernel)).sn
theorem vi_284_248 : VI 284 248 (kN (i_bin (fun x y => x + y))) := (sp_iadd (kd mk_284 dL_law_248)).sn
theorem vi_284_249 : VI 284 249 (kN (i_ald 40)) := (sp_sald (kd mk_284 dL_law_249)).sn
theorem vi_284_250 : VI 284 250 (kN (i_aload 0 1)) := (sp_aload_n (kd mk_284 dL_law_250)).sn
theorem vi_284_251 : VI 284 251 (kN (i_iload 3 1)) := (sp_iload_n (kd mk_284 dL_law_251)).sn
theorem vi_284_252 : VI 284 252 (kN (i_ic (nI 3) 1)) := (sp_iconst (kd mk_284 dL_law_252) (by decide +kernel)).sn
theorem vi_284_253 : VI 284 253 (kN (i_bin (fun x y => x + y))) := (sp_iadd (kd mk_284 dL_law_253)).sn
theorem vi_284_254 : VI 284 254 (kN (i_ald 40)) := (sp_sald (kd mk_284 dL_law_254)).sn
theorem vi_284_255 : VI 284 255 (kC (i_inV 231 3 0)) := v_V mk_284 mk_231 ck_231 ci_231 dL_law_255 q892
theorem vi_284_258 : VI 284 258 (kN (i_aload 2 1)) := (sp_aload_n (kd mk_284 dL_law_258)).sn
theorem vi_284_259 : VI 284 259 (kN (i_aload 0 1)) := (sp_aload_n (kd mk_284 dL_law_259)).sn
theorem vi_284_260 : VI 284 260 (kN (i_iload 3 1)) := (sp_iload_n (kd mk_284 dL_law_260)).sn
theorem vi_284_261 : VI 284 261 (kN (i_ic (nI 1) 1)) := (sp_iconst (kd mk_284 dL_law_261) (by decide +kernel)).sn
theorem vi_284_262 : VI 284 262 (kN (i_bin (fun x y => x + y))) := (sp_iadd (kd mk_284 dL_law_262)).sn
theorem vi_284_263 : VI 284 263 (kN (i_ald 40)) := (sp_sald (kd mk_284 dL_law_263)).sn
theorem vi_284_264 : VI 284 264 (kN (i_aload 0 1)) := (sp_aload_n (kd mk_284 dL_law_264)).sn
theorem vi_284_265 : VI 284 265 (kN (i_iload 3 1)) := (sp_iload_n (kd mk_284 dL_law_265)).sn
theorem vi_284_266 : VI 284 266 (kN (i_ic (nI 2) 1)) := (sp_iconst (kd mk_284 dL_law_266) (by decide +kernel)).sn
theorem vi_284_267 : VI 284 267 (kN (i_bin (fun x y => x + y))) := (sp_iadd (kd mk_284 dL_law_267)).sn
theorem vi_284_268 : VI 284 268 (kN (i_ald 40)) := (sp_sald (kd mk_284 dL_law_268)).sn
theorem vi_284_269 : VI 284 269 (kN (i_aload 0 1)) := (sp_aload_n (kd mk_284 dL_law_269)).sn
theorem vi_284_270 : VI 284 270 (kN (i_iload 3 1)) := (sp_iload_n (kd mk_284 dL_law_270)).sn
theorem vi_284_271 : VI 284 271 (kN (i_ic (nI 3) 1)) := (sp_iconst (kd mk_284 dL_law_271) (by decide +kernel)).sn
theorem vi_284_272 : VI 284 272 (kN (i_bin (fun x y => x + y))) := (sp_iadd (kd mk_284 dL_law_272)).sn
theorem vi_284_273 : VI 284 273 (kN (i_ald 40)) := (sp_sald (kd mk_284 dL_law_273)).sn
theorem vi_284_274 : VI 284 274 (kC (i_inV 54 3 3)) := v_V mk_284 mk_54 ck_54 ci_54 dL_law_274 q1410
theorem vi_284_277 : VI 284 277 (kN (i_ceq 1530)) := (sp_ceq (kd mk_284 dL_law_277) (by decide)).sn
theorem vi_284_280 : VI 284 280 (kN (i_ic (nI 0) 1)) := (sp_iconst (kd mk_284 dL_law_280) (by decide +kernel)).sn
theorem vi_284_281 : VI 284 281 (kR i_zret) := sr_z (kd mk_284 dL_law_281) mk_284.2.2.2
theorem vi_284_282 : VI 284 282 (kN (i_aload 1 1)) := (sp_aload_n (kd mk_284 dL_law_282)).sn
theorem vi_284_283 : VI 284 283 (kN (i_aload 0 1)) := (sp_aload_n (kd mk_284 dL_law_283)).sn
theorem vi_284_284 : VI 284 284 (kN (i_iload 3 1)) := (sp_iload_n (kd mk_284 dL_law_284)).sn
theorem vi_284_285 : VI 284 285 (kN (i_ic (nI 1) 1)) := (sp_iconst (kd mk_284 dL_law_285) (by decide +kernel)).sn
theorem vi_284_286 : VI 284 286 (kN (i_bin (fun x y => x + y))) := (sp_iadd (kd mk_284 dL_law_286)).sn
theorem vi_284_287 : VI 284 287 (kN (i_ald 40)) := (sp_sald (kd mk_284 dL_law_287)).sn
theorem vi_284_288 : VI 284 288 (kN (i_aload 0 1)) := (sp_aload_n (kd mk_284 dL_law_288)).sn
theorem vi_284_289 : VI 284 289 (kN (i_iload 3 1)) := (sp_iload_n (kd mk_284 dL_law_289)).sn
theorem vi_284_290 : VI 284 290 (kN (i_ic (nI 2) 1)) := (sp_iconst (kd mk_284 dL_law_290) (by decide +kernel)).sn
theorem vi_284_291 : VI 284 291 (kN (i_bin (fun x y => x + y))) := (sp_iadd (kd mk_284 dL_law_291)).sn
theorem vi_284_292 : VI 284 292 (kN (i_ald 40)) := (sp_sald (kd mk_284 dL_law_292)).sn
theorem vi_284_293 : VI 284 293 (kN (i_aload 0 1)) := (sp_aload_n (kd mk_284 dL_law_293)).sn
theorem vi_284_294 : VI 284 294 (kN (i_iload 3 1)) := (sp_iload_n (kd mk_284 dL_law_294)).sn
theorem vi_284_295 : VI 284 295 (kN (i_ic (nI 3) 1)) := (sp_iconst (kd mk_284 dL_law_295) (by decide +kernel)).sn
theorem vi_284_296 : VI 284 296 (kN (i_bin (fun x y => x + y))) := (sp_iadd (kd mk_284 dL_law_296)).sn
theorem vi_284_297 : VI 284 297 (kN (i_ald 40)) := (sp_sald (kd mk_284 dL_law_297)).sn
theorem vi_284_298 : VI 284 298 (kC (i_inV 232 3 0)) := v_V mk_284 mk_232 ck_232 ci_232 dL_law_298 q896
theorem vi_284_301 : VI 284 301 (kN (i_aload 2 1)) := (sp_aload_n (kd mk_284 dL_law_301)).sn
theorem vi_284_302 : VI 284 302 (kN (i_aload 0 1)) := (sp_aload_n (kd mk_284 dL_law_302)).sn
theorem vi_284_303 : VI 284 303 (kN (i_iload 3 1)) := (sp_iload_n (kd mk_284 dL_law_303)).sn
theorem vi_284_304 : VI 284 304 (kN (i_ic (nI 1) 1)) := (sp_iconst (kd mk_284 dL_law_304) (by decide +kernel)).sn
theorem vi_284_305 : VI 284 305 (kN (i_bin (fun x y => x + y))) := (sp_iadd (kd mk_284 dL_law_305)).sn
theorem vi_284_306 : VI 284 306 (kN (i_ald 40)) := (sp_sald (kd mk_284 dL_law_306)).sn
theorem vi_284_307 : VI 284 307 (kN (i_aload 0 1)) := (sp_aload_n (kd mk_284 dL_law_307)).sn
theorem vi_284_308 : VI 284 308 (kN (i_iload 3 1)) := (sp_iload_n (kd mk_284 dL_law_308)).sn
theorem vi_284_309 : VI 284 309 (kN (i_ic (nI 2) 1)) := (sp_iconst (kd mk_284 dL_law_309) (by decide +kernel)).sn
theorem vi_284_310 : VI 284 310 (kN (i_bin (fun x y => x + y))) := (sp_iadd (kd mk_284 dL_law_310)).sn
theorem vi_284_311 : VI 284 311 (kN (i_ald 40)) := (sp_sald (kd mk_284 dL_law_311)).sn
theorem vi_284_312 : VI 284 312 (kN (i_aload 0 1)) := (sp_aload_n (kd mk_284 dL_law_312)).sn
theorem vi_284_313 : VI 284 313 (kN (i_iload 3 1)) := (sp_iload_n (kd mk_284 dL_law_313)).sn
theorem vi_284_314 : VI 284 314 (kN (i_ic (nI 3) 1)) := (sp_iconst (kd mk_284 dL_law_314) (by decide +kernel)).sn
theorem vi_284_315 : VI 284 315 (kN (i_bin (fun x y => x + y))) := (sp_iadd (kd mk_284 dL_law_315)).sn
theorem vi_284_316 : VI 284 316 (kN (i_ald 40)) := (sp_sald (kd mk_284 dL_law_316)).sn
theorem vi_284_317 : VI 284 317 (kC (i_inV 55 3 3)) := v_V mk_284 mk_55 ck_55 ci_55 dL_law_317 q1417
theorem vi_284_320 : VI 284 320 (kN (i_ceq 1530)) := (sp_ceq (kd mk_284 dL_law_320) (by decide)).sn
theorem vi_284_323 : VI 284 323 (kN (i_ic (nI 0) 1)) := (sp_iconst (kd mk_284 dL_law_323) (by decide +kernel)).sn
theorem vi_284_324 : VI 284 324 (kR i_zret) := sr_z (kd mk_284 dL_law_324) mk_284.2.2.2
theorem vi_284_325 : VI 284 325 (kN (i_aload 1 1)) := (sp_aload_n (kd mk_284 dL_law_325)).sn
theorem vi_284_326 : VI 284 326 (kN (i_aload 0 1)) := (sp_aload_n (kd mk_284 dL_law_326)).sn
theorem vi_284_327 : VI 284 327 (kN (i_iload 3 1)) := (sp_iload_n (kd mk_284 dL_law_327)).sn
theorem vi_284_328 : VI 284 328 (kN (i_ic (nI 1) 1)) := (sp_iconst (kd mk_284 dL_law_328) (by decide +kernel)).sn
theorem vi_284_329 : VI 284 329 (kN (i_bin (fun x y => x + y))) := (sp_iadd (kd mk_284 dL_law_329)).sn
theorem vi_284_330 : VI 284 330 (kN (i_ald 40)) := (sp_sald (kd mk_284 dL_law_330)).sn
theorem vi_284_331 : VI 284 331 (kN (i_aload 0 1)) := (sp_aload_n (kd mk_284 dL_law_331)).sn
theorem vi_284_332 : VI 284 332 (kN (i_iload 3 1)) := (sp_iload_n (kd mk_284 dL_law_332)).sn
theorem vi_284_333 : VI 284 333 (kN (i_ic (nI 2) 1)) := (sp_iconst (kd mk_284 dL_law_333) (by decide +kernel)).sn
theorem vi_284_334 : VI 284 334 (kN (i_bin (fun x y => x + y))) := (sp_iadd (kd mk_284 dL_law_334)).sn
theorem vi_284_335 : VI 284 335 (kN (i_ald 40)) := (sp_sald (kd mk_284 dL_law_335)).sn
theorem vi_284_336 : VI 284 336 (kN (i_aload 0 1)) := (sp_aload_n (kd mk_284 dL_law_336)).sn
theorem vi_284_337 : VI 284 337 (kN (i_iload 3 1)) := (sp_iload_n (kd mk_284 dL_law_337)).sn
theorem vi_284_338 : VI 284 338 (kN (i_ic (nI 3) 1)) := (sp_iconst (kd mk_284 dL_law_338) (by decide +kernel)).sn
theorem vi_284_339 : VI 284 339 (kN (i_bin (fun x y => x + y))) := (sp_iadd (kd mk_284 dL_law_339)).sn
theorem vi_284_340 : VI 284 340 (kN (i_ald 40)) := (sp_sald (kd mk_284 dL_law_340)).sn
theorem vi_284_341 : VI 284 341 (kC (i_inV 234 3 0)) := v_V mk_284 mk_234 ck_234 ci_234 dL_law_341 q900
theorem vi_284_344 : VI 284 344 (kN (i_aload 2 1)) := (sp_aload_n (kd mk_284 dL_law_344)).sn
theorem vi_284_345 : VI 284 345 (kN (i_aload 0 1)) := (sp_aload_n (kd mk_284 dL_law_345)).sn
theorem vi_284_346 : VI 284 346 (kN (i_iload 3 1)) := (sp_iload_n (kd mk_284 dL_law_346)).sn
theorem vi_284_347 : VI 284 347 (kN (i_ic (nI 1) 1)) := (sp_iconst (kd mk_284 dL_law_347) (by decide +kernel)).sn
theorem vi_284_348 : VI 284 348 (kN (i_bin (fun x y => x + y))) := (sp_iadd (kd mk_284 dL_law_348)).sn
theorem vi_284_349 : VI 284 349 (kN (i_ald 40)) := (sp_sald (kd mk_284 dL_law_349)).sn
theorem vi_284_350 : VI 284 350 (kN (i_aload 0 1)) := (sp_aload_n (kd mk_284 dL_law_350)).sn
theorem vi_284_351 : VI 284 351 (kN (i_iload 3 1)) := (sp_iload_n (kd mk_284 dL_law_351)).sn
theorem vi_284_352 : VI 284 352 (kN (i_ic (nI 2) 1)) := (sp_iconst (kd mk_284 dL_law_352) (by decide +kernel)).sn
theorem vi_284_353 : VI 284 353 (kN (i_bin (fun x y => x + y))) := (sp_iadd (kd mk_284 dL_law_353)).sn
theorem vi_284_354 : VI 284 354 (kN (i_ald 40)) := (sp_sald (kd mk_284 dL_law_354)).sn
theorem vi_284_355 : VI 284 355 (kN (i_aload 0 1)) := (sp_aload_n (kd mk_284 dL_law_355)).sn
theorem vi_284_356 : VI 284 356 (kN (i_iload 3 1)) := (sp_iload_n (kd mk_284 dL_law_356)).sn
theorem vi_284_357 : VI 284 357 (kN (i_ic (nI 3) 1)) := (sp_iconst (kd mk_284 dL_law_357) (by decide +kernel)).sn
theorem vi_284_358 : VI 284 358 (kN (i_bin (fun x y => x + y))) := (sp_iadd (kd mk_284 dL_law_358)).sn
theorem vi_284_359 : VI 284 359 (kN (i_ald 40)) := (sp_sald (kd mk_284 dL_law_359)).sn
theorem vi_284_360 : VI 284 360 (kC (i_inV 57 3 3)) := v_V mk_284 mk_57 ck_57 ci_57 dL_law_360 q1421
theorem vi_284_363 : VI 284 363 (kN (i_ceq 1530)) := (sp_ceq (kd mk_284 dL_law_363) (by decide)).sn
theorem vi_284_366 : VI 284 366 (kN (i_ic (nI 0) 1)) := (sp_iconst (kd mk_284 dL_law_366) (by decide +kernel)).sn
theorem vi_284_367 : VI 284 367 (kR i_zret) := sr_z (kd mk_284 dL_law_367) mk_284.2.2.2
theorem vi_284_368 : VI 284 368 (kN (i_aload 1 1)) := (sp_aload_n (kd mk_284 dL_law_368)).sn
theorem vi_284_369 : VI 284 369 (kN (i_aload 0 1)) := (sp_aload_n (kd mk_284 dL_law_369)).sn
theorem vi_284_370 : VI 284 370 (kN (i_iload 3 1)) := (sp_iload_n (kd mk_284 dL_law_370)).sn
theorem vi_284_371 : VI 284 371 (kN (i_ic (nI 1) 1)) := (sp_iconst (kd mk_284 dL_law_371) (by decide +kernel)).sn
theorem vi_284_372 : VI 284 372 (kN (i_bin (fun x y => x + y))) := (sp_iadd (kd mk_284 dL_law_372)).sn
theorem vi_284_373 : VI 284 373 (kN (i_ald 40)) := (sp_sald (kd mk_284 dL_law_373)).sn
theorem vi_284_374 : VI 284 374 (kC (i_inV 235 1 0)) := v_V mk_284 mk_235 ck_235 ci_235 dL_law_374 q916
theorem vi_284_377 : VI 284 377 (kN (i_aload 2 1)) := (sp_aload_n (kd mk_284 dL_law_377)).sn
theorem vi_284_378 : VI 284 378 (kN (i_aload 0 1)) := (sp_aload_n (kd mk_284 dL_law_378)).sn
theorem vi_284_379 : VI 284 379 (kN (i_iload 3 1)) := (sp_iload_n (kd mk_284 dL_law_379)).sn
theorem vi_284_380 : VI 284 380 (kN (i_ic (nI 1) 1)) := (sp_iconst (kd mk_284 dL_law_380) (by decide +kernel)).sn
theorem vi_284_381 : VI 284 381 (kN (i_bin (fun x y => x + y))) := (sp_iadd (kd mk_284 dL_law_381)).sn
theorem vi_284_382 : VI 284 382 (kN (i_ald 40)) := (sp_sald (kd mk_284 dL_law_382)).sn
theorem vi_284_383 : VI 284 383 (kC (i_inV 116 1 3)) := v_V mk_284 mk_116 ck_116 ci_116 dL_law_383 q1612
theorem vi_284_386 : VI 284 386 (kN (i_ceq 1530)) := (sp_ceq (kd mk_284 dL_law_386) (by decide)).sn
theorem vi_284_389 : VI 284 389 (kN (i_ic (nI 0) 1)) := (sp_iconst (kd mk_284 dL_law_389) (by decide +kernel)).sn
theorem vi_284_390 : VI 284 390 (kR i_zret) := sr_z (kd mk_284 dL_law_390) mk_284.2.2.2
theorem vi_284_391 : VI 284 391 (kN (i_aload 1 1)) := (sp_aload_n (kd mk_284 dL_law_391)).sn
theorem vi_284_392 : VI 284 392 (kN (i_aload 0 1)) := (sp_aload_n (kd mk_284 dL_law_392)).sn
theorem vi_284_393 : VI 284 393 (kN (i_iload 3 1)) := (sp_iload_n (kd mk_284 dL_law_393)).sn
theorem vi_284_394 : VI 284 394 (kN (i_ic (nI 1) 1)) := (sp_iconst (kd mk_284 dL_law_394) (by decide +kernel)).sn
theorem vi_284_395 : VI 284 395 (kN (i_bin (fun x y => x + y))) := (sp_iadd (kd mk_284 dL_law_395)).sn
theorem vi_284_396 : VI 284 396 (kN (i_ald 40)) := (sp_sald (kd mk_284 dL_law_396)).sn
theorem vi_284_397 : VI 284 397 (kN (i_aload 0 1)) := (sp_aload_n (kd mk_284 dL_law_397)).sn
theorem vi_284_398 : VI 284 398 (kN (i_iload 3 1)) := (sp_iload_n (kd mk_284 dL_law_398)).sn
theorem vi_284_399 : VI 284 399 (kN (i_ic (nI 2) 1)) := (sp_iconst (kd mk_284 dL_law_399) (by decide +kernel)).sn
theorem vi_284_400 : VI 284 400 (kN (i_bin (fun x y => x + y))) := (sp_iadd (kd mk_284 dL_law_400)).sn
theorem vi_284_401 : VI 284 401 (kN (i_ald 40)) := (sp_sald (kd mk_284 dL_law_401)).sn
theorem vi_284_402 : VI 284 402 (kC (i_inV 236 2 0)) := v_V mk_284 mk_236 ck_236 ci_236 dL_law_402 q1036
theorem vi_284_405 : VI 284 405 (kN (i_aload 2 1)) := (sp_aload_n (kd mk_284 dL_law_405)).sn
theorem vi_284_406 : VI 284 406 (kN (i_aload 0 1)) := (sp_aload_n (kd mk_284 dL_law_406)).sn
theorem vi_284_407 : VI 284 407 (kN (i_iload 3 1)) := (sp_iload_n (kd mk_284 dL_law_407)).sn
theorem vi_284_408 : VI 284 408 (kN (i_ic (nI 1) 1)) := (sp_iconst (kd mk_284 dL_law_408) (by decide +kernel)).sn
theorem vi_284_409 : VI 284 409 (kN (i_bin (fun x y => x + y))) := (sp_iadd (kd mk_284 dL_law_409)).sn
theorem vi_284_410 : VI 284 410 (kN (i_ald 40)) := (sp_sald (kd mk_284 dL_law_410)).sn
theorem vi_284_411 : VI 284 411 (kN (i_aload 0 1)) := (sp_aload_n (kd mk_284 dL_law_411)).sn
theorem vi_284_412 : VI 284 412 (kN (i_iload 3 1)) := (sp_iload_n (kd mk_284 dL_law_412)).sn
theorem vi_284_413 : VI 284 413 (kN (i_ic (nI 2) 1)) := (sp_iconst (kd mk_284 dL_law_413) (by decide +kernel)).sn
theorem vi_284_414 : VI 284 414 (kN (i_bin (fun x y => x + y))) := (sp_iadd (kd mk_284 dL_law_414)).sn
theorem vi_284_415 : VI 284 415 (kN (i_ald 40)) := (sp_sald (kd mk_284 dL_law_415)).sn
theorem vi_284_416 : VI 284 416 (kC (i_inV 117 2 3)) := v_V mk_284 mk_117 ck_117 ci_117 dL_law_416 q1718
theorem vi_284_419 : VI 284 419 (kN (i_ceq 1530)) := (sp_ceq (kd mk_284 dL_law_419) (by decide)).sn
theorem vi_284_422 : VI 284 422 (kN (i_ic (nI 0) 1)) := (sp_iconst (kd mk_284 dL_law_422) (by decide +kernel)).sn
theorem vi_284_423 : VI 284 423 (kR i_zret) := sr_z (kd mk_284 dL_law_423) mk_284.2.2.2
theorem vi_284_424 : VI 284 424 (kN (i_aload 1 1)) := (sp_aload_n (kd mk_284 dL_law_424)).sn
theorem vi_284_425 : VI 284 425 (kN (i_aload 0 1)) := (sp_aload_n (kd mk_284 dL_law_425)).sn
theorem vi_284_426 : VI 284 426 (kN (i_iload 3 1)) := (sp_iload_n (kd mk_284 dL_law_426)).sn
theorem vi_284_427 : VI 284 427 (kN (i_ic (nI 1) 1)) := (sp_iconst (kd mk_284 dL_law_427) (by decide +kernel)).sn
theorem vi_284_428 : VI 284 428 (kN (i_bin (fun x y => x + y))) := (sp_iadd (kd mk_284 dL_law_428)).sn
theorem vi_284_429 : VI 284 429 (kN (i_ald 40)) := (sp_sald (kd mk_284 dL_law_429)).sn
theorem vi_284_430 : VI 284 430 (kN (i_aload 0 1)) := (sp_aload_n (kd mk_284 dL_law_430)).sn
theorem vi_284_431 : VI 284 431 (kN (i_iload 3 1)) := (sp_iload_n (kd mk_284 dL_law_431)).sn
theorem vi_284_432 : VI 284 432 (kN (i_ic (nI 2) 1)) := (sp_iconst (kd mk_284 dL_law_432) (by decide +kernel)).sn
theorem vi_284_433 : VI 284 433 (kN (i_bin (fun x y => x + y))) := (sp_iadd (kd mk_284 dL_law_433)).sn
theorem vi_284_434 : VI 284 434 (kN (i_ald 40)) := (sp_sald (kd mk_284 dL_law_434)).sn
theorem vi_284_435 : VI 284 435 (kN (i_ifeq 442)) := (sp_ifeq (kd mk_284 dL_law_435) (by decide)).sn
theorem vi_284_438 : VI 284 438 (kN (i_ic (nI 1) 1)) := (sp_iconst (kd mk_284 dL_law_438) (by decide +kernel)).sn
theorem vi_284_439 : VI 284 439 (kN (i_goto 443)) := (sp_goto (kd mk_284 dL_law_439) (by decide)).sn
theorem vi_284_442 : VI 284 442 (kN (i_ic (nI 0) 1)) := (sp_iconst (kd mk_284 dL_law_442) (by decide +kernel)).sn
theorem vi_284_443 : VI 284 443 (kC (i_inV 237 2 0)) := v_V mk_284 mk_237 ck_237 ci_237 dL_law_443 q1041
theorem vi_284_446 : VI 284 446 (kN (i_aload 2 1)) := (sp_aload_n (kd mk_284 dL_law_446)).sn
theorem vi_284_447 : VI 284 447 (kN (i_aload 0 1)) := (sp_aload_n (kd mk_284 dL_law_447)).sn
theorem vi_284_448 : VI 284 448 (kN (i_iload 3 1)) := (sp_iload_n (kd mk_284 dL_law_448)).sn
theorem vi_284_449 : VI 284 449 (kN (i_ic (nI 1) 1)) := (sp_iconst (kd mk_284 dL_law_449) (by decide +kernel)).sn
theorem vi_284_450 : VI 284 450 (kN (i_bin (fun x y => x + y))) := (sp_iadd (kd mk_284 dL_law_450)).sn
theorem vi_284_451 : VI 284 451 (kN (i_ald 40)) := (sp_sald (kd mk_284 dL_law_451)).sn
theorem vi_284_452 : VI 284 452 (kN (i_aload 0 1)) := (sp_aload_n (kd mk_284 dL_law_452)).sn
theorem vi_284_453 : VI 284 453 (kN (i_iload 3 1)) := (sp_iload_n (kd mk_284 dL_law_453)).sn
theorem vi_284_454 : VI 284 454 (kN (i_ic (nI 2) 1)) := (sp_iconst (kd mk_284 dL_law_454) (by decide +kernel)).sn
theorem vi_284_455 : VI 284 455 (kN (i_bin (fun x y => x + y))) := (sp_iadd (kd mk_284 dL_law_455)).sn
theorem vi_284_456 : VI 284 456 (kN (i_ald 40)) := (sp_sald (kd mk_284 dL_law_456)).sn
theorem vi_284_457 : VI 284 457 (kN (i_ifeq 464)) := (sp_ifeq (kd mk_284 dL_law_457) (by decide)).sn
theorem vi_284_460 : VI 284 460 (kN (i_ic (nI 1) 1)) := (sp_iconst (kd mk_284 dL_law_460) (by decide +kernel)).sn
theorem vi_284_461 : VI 284 461 (kN (i_goto 465)) := (sp_goto (kd mk_284 dL_law_461) (by decide)).sn
theorem vi_284_464 : VI 284 464 (kN (i_ic (nI 0) 1)) := (sp_iconst (kd mk_284 dL_law_464) (by decide +kernel)).sn
theorem vi_284_465 : VI 284 465 (kC (i_inV 118 2 3)) := v_V mk_284 mk_118 ck_118 ci_118 dL_law_465 q1722
theorem vi_284_468 : VI 284 468 (kN (i_ceq 1530)) := (sp_ceq (kd mk_284 dL_law_468) (by decide)).sn
theorem vi_284_471 : VI 284 471 (kN (i_ic (nI 0) 1)) := (sp_iconst (kd mk_284 dL_law_471) (by decide +kernel)).sn
theorem vi_284_472 : VI 284 472 (kR i_zret) := sr_z (kd mk_284 dL_law_472) mk_284.2.2.2
theorem vi_284_473 : VI 284 473 (kN (i_aload 1 1)) := (sp_aload_n (kd mk_284 dL_law_473)).sn
theorem vi_284_474 : VI 284 474 (kN (i_aload 0 1)) := (sp_aload_n (kd mk_284 dL_law_474)).sn
theorem vi_284_475 : VI 284 475 (kN (i_iload 3 1)) := (sp_iload_n (kd mk_284 dL_law_475)).sn
theorem vi_284_476 : VI 284 476 (kN (i_ic (nI 1) 1)) := (sp_iconst (kd mk_284 dL_law_476) (by decide +kernel)).sn
theorem vi_284_477 : VI 284 477 (kN (i_bin (fun x y => x + y))) := (sp_iadd (kd mk_284 dL_law_477)).sn
theorem vi_284_478 : VI 284 478 (kN (i_ald 40)) := (sp_sald (kd mk_284 dL_law_478)).sn
theorem vi_284_479 : VI 284 479 (kN (i_aload 0 1)) := (sp_aload_n (kd mk_284 dL_law_479)).sn
theorem vi_284_480 : VI 284 480 (kN (i_iload 3 1)) := (sp_iload_n (kd mk_284 dL_law_480)).sn
theorem vi_284_481 : VI 284 481 (kN (i_ic (nI 2) 1)) := (sp_iconst (kd mk_284 dL_law_481) (by decide +kernel)).sn
theorem vi_284_482 : VI 284 482 (kN (i_bin (fun x y => x + y))) := (sp_iadd (kd mk_284 dL_law_482)).sn
theorem vi_284_483 : VI 284 483 (kN (i_ald 40)) := (sp_sald (kd mk_284 dL_law_483)).sn
theorem vi_284_484 : VI 284 484 (kN (i_ifeq 491)) := (sp_ifeq (kd mk_284 dL_law_484) (by decide)).sn
theorem vi_284_487 : VI 284 487 (kN (i_ic (nI 1) 1)) := (sp_iconst (kd mk_284 dL_law_487) (by decide +kernel)).sn
theorem vi_284_488 : VI 284 488 (kN (i_goto 492)) := (sp_goto (kd mk_284 dL_law_488) (by decide)).sn
theorem vi_284_491 : VI 284 491 (kN (i_ic (nI 0) 1)) := (sp_iconst (kd mk_284 dL_law_491) (by decide +kernel)).sn
theorem vi_284_492 : VI 284 492 (kC (i_inV 238 2 0)) := v_V mk_284 mk_238 ck_238 ci_238 dL_law_492 q1046
theorem vi_284_495 : VI 284 495 (kN (i_aload 2 1)) := (sp_aload_n (kd mk_284 dL_law_495)).sn
theorem vi_284_496 : VI 284 496 (kN (i_aload 0 1)) := (sp_aload_n (kd mk_284 dL_law_496)).sn
theorem vi_284_497 : VI 284 497 (kN (i_iload 3 1)) := (sp_iload_n (kd mk_284 dL_law_497)).sn
theorem vi_284_498 : VI 284 498 (kN (i_ic (nI 1) 1)) := (sp_iconst (kd mk_284 dL_law_498) (by decide +kernel)).sn
theorem vi_284_499 : VI 284 499 (kN (i_bin (fun x y => x + y))) := (sp_iadd (kd mk_284 dL_law_499)).sn
theorem vi_284_500 : VI 284 500 (kN (i_ald 40)) := (sp_sald (kd mk_284 dL_law_500)).sn
theorem vi_284_501 : VI 284 501 (kN (i_aload 0 1)) := (sp_aload_n (kd mk_284 dL_law_501)).sn
theorem vi_284_502 : VI 284 502 (kN (i_iload 3 1)) := (sp_iload_n (kd mk_284 dL_law_502)).sn
theorem vi_284_503 : VI 284 503 (kN (i_ic (nI 2) 1)) := (sp_iconst (kd mk_284 dL_law_503) (by decide +kernel)).sn
theorem vi_284_504 : VI 284 504 (kN (i_bin (fun x y => x + y))) := (sp_iadd (kd mk_284 dL_law_504)).sn
theorem vi_284_505 : VI 284 505 (kN (i_ald 40)) := (sp_sald (kd mk_284 dL_law_505)).sn
theorem vi_284_506 : VI 284 506 (kN (i_ifeq 513)) := (sp_ifeq (kd mk_284 dL_law_506) (by decide)).sn
theorem vi_284_509 : VI 284 509 (kN (i_ic (nI 1) 1)) := (sp_iconst (kd mk_284 dL_law_509) (by decide +kernel)).sn
theorem vi_284_510 : VI 284 510 (kN (i_goto 514)) := (sp_goto (kd mk_284 dL_law_510) (by decide)).sn
theorem vi_284_513 : VI 284 513 (kN (i_ic (nI 0) 1)) := (sp_iconst (kd mk_284 dL_law_513) (by decide +kernel)).sn
theorem vi_284_514 : VI 284 514 (kC (i_inV 119 2 3)) := v_V mk_284 mk_119 ck_119 ci_119 dL_law_514 q1726
theorem vi_284_517 : VI 284 517 (kN (i_ceq 1530)) := (sp_ceq (kd mk_284 dL_law_517) (by decide)).sn
theorem vi_284_520 : VI 284 520 (kN (i_ic (nI 0) 1)) := (sp_iconst (kd mk_284 dL_law_520) (by decide +kernel)).sn
theorem vi_284_521 : VI 284 521 (kR i_zret) := sr_z (kd mk_284 dL_law_521) mk_284.2.2.2
theorem vi_284_522 : VI 284 522 (kN (i_aload 1 1)) := (sp_aload_n (kd mk_284 dL_law_522)).sn
theorem vi_284_523 : VI 284 523 (kN (i_aload 0 1)) := (sp_aload_n (kd mk_284 dL_law_523)).sn
theorem vi_284_524 : VI 284 524 (kN (i_iload 3 1)) := (sp_iload_n (kd mk_284 dL_law_524)).sn
theorem vi_284_525 : VI 284 525 (kN (i_ic (nI 1) 1)) := (sp_iconst (kd mk_284 dL_law_525) (by decide +kernel)).sn
theorem vi_284_526 : VI 284 526 (kN (i_bin (fun x y => x + y))) := (sp_iadd (kd mk_284 dL_law_526)).sn
theorem vi_284_527 : VI 284 527 (kN (i_ald 40)) := (sp_sald (kd mk_284 dL_law_527)).sn
theorem vi_284_528 : VI 284 528 (kC (i_inV 239 1 0)) := v_V mk_284 mk_239 ck_239 ci_239 dL_law_528 q1050
theorem vi_284_531 : VI 284 531 (kN (i_aload 2 1)) := (sp_aload_n (kd mk_284 dL_law_531)).sn
theorem vi_284_532 : VI 284 532 (kN (i_aload 0 1)) := (sp_aload_n (kd mk_284 dL_law_532)).sn
theorem vi_284_533 : VI 284 533 (kN (i_iload 3 1)) := (sp_iload_n (kd mk_284 dL_law_533)).sn
theorem vi_284_534 : VI 284 534 (kN (i_ic (nI 1) 1)) := (sp_iconst (kd mk_284 dL_law_534) (by decide +kernel)).sn
theorem vi_284_535 : VI 284 535 (kN (i_bin (fun x y => x + y))) := (sp_iadd (kd mk_284 dL_law_535)).sn
theorem vi_284_536 : VI 284 536 (kN (i_ald 40)) := (sp_sald (kd mk_284 dL_law_536)).sn
theorem vi_284_537 : VI 284 537 (kC (i_inV 121 1 3)) := v_V mk_284 mk_121 ck_121 ci_121 dL_law_537 q1730
theorem vi_284_540 : VI 284 540 (kN (i_ceq 1530)) := (sp_ceq (kd mk_284 dL_law_540) (by decide)).sn
theorem vi_284_543 : VI 284 543 (kN (i_ic (nI 0) 1)) := (sp_iconst (kd mk_284 dL_law_543) (by decide +kernel)).sn
theorem vi_284_544 : VI 284 544 (kR i_zret) := sr_z (kd mk_284 dL_law_544) mk_284.2.2.2
theorem vi_284_545 : VI 284 545 (kN (i_aload 1 1)) := (sp_aload_n (kd mk_284 dL_law_545)).sn
theorem vi_284_546 : VI 284 546 (kN (i_aload 0 1)) := (sp_aload_n (kd mk_284 dL_law_546)).sn
theorem vi_284_547 : VI 284 547 (kN (i_iload 3 1)) := (sp_iload_n (kd mk_284 dL_law_547)).sn
theorem vi_284_548 : VI 284 548 (kN (i_ic (nI 1) 1)) := (sp_iconst (kd mk_284 dL_law_548) (by decide +kernel)).sn
theorem vi_284_549 : VI 284 549 (kN (i_bin (fun x y => x + y))) := (sp_iadd (kd mk_284 dL_law_549)).sn
theorem vi_284_550 : VI 284 550 (kN (i_ald 40)) := (sp_sald (kd mk_284 dL_law_550)).sn
theorem vi_284_551 : VI 284 551 (kN (i_aload 0 1)) := (sp_aload_n (kd mk_284 dL_law_551)).sn
theorem vi_284_552 : VI 284 552 (kN (i_iload 3 1)) := (sp_iload_n (kd mk_284 dL_law_552)).sn
theorem vi_284_553 : VI 284 553 (kN (i_ic (nI 2) 1)) := (sp_iconst (kd mk_284 dL_law_553) (by decide +kernel)).sn
theorem vi_284_554 : VI 284 554 (kN (i_bin (fun x y => x + y))) := (sp_iadd (kd mk_284 dL_law_554)).sn
theorem vi_284_555 : VI 284 555 (kN (i_ald 40)) := (sp_sald (kd mk_284 dL_law_555)).sn
theorem vi_284_556 : VI 284 556 (kN (i_aload 0 1)) := (sp_aload_n (kd mk_284 dL_law_556)).sn
theorem vi_284_557 : VI 284 557 (kN (i_iload 3 1)) := (sp_iload_n (kd mk_284 dL_law_557)).sn
theorem vi_284_558 : VI 284 558 (kN (i_ic (nI 3) 1)) := (sp_iconst (kd mk_284 dL_law_558) (by decide +kernel)).sn
theorem vi_284_559 : VI 284 559 (kN (i_bin (fun x y => x + y))) := (sp_iadd (kd mk_284 dL_law_559)).sn
theorem vi_284_560 : VI 284 560 (kN (i_ald 40)) := (sp_sald (kd mk_284 dL_law_560)).sn
theorem vi_284_561 : VI 284 561 (kN (i_aload 0 1)) := (sp_aload_n (kd mk_284 dL_law_561)).sn
theorem vi_284_562 : VI 284 562 (kN (i_iload 3 1)) := (sp_iload_n (kd mk_284 dL_law_562)).sn
theorem vi_284_563 : VI 284 563 (kN (i_ic (nI 4) 1)) := (sp_iconst (kd mk_284 dL_law_563) (by decide +kernel)).sn
theorem vi_284_564 : VI 284 564 (kN (i_bin (fun x y => x + y))) := (sp_iadd (kd mk_284 dL_law_564)).sn
theorem vi_284_565 : VI 284 565 (kN (i_ald 40)) := (sp_sald (kd mk_284 dL_law_565)).sn
theorem vi_284_566 : VI 284 566 (kN (i_aload 0 1)) := (sp_aload_n (kd mk_284 dL_law_566)).sn
theorem vi_284_567 : VI 284 567 (kN (i_iload 3 1)) := (sp_iload_n (kd mk_284 dL_law_567)).sn
theorem vi_284_568 : VI 284 568 (kN (i_ic (nI 5) 1)) := (sp_iconst (kd mk_284 dL_law_568) (by decide +kernel)).sn
theorem vi_284_569 : VI 284 569 (kN (i_bin (fun x y => x + y))) := (sp_iadd (kd mk_284 dL_law_569)).sn
theorem vi_284_570 : VI 284 570 (kN (i_ald 40)) := (sp_sald (kd mk_284 dL_law_570)).sn
theorem vi_284_571 : VI 284 571 (kC (i_inV 189 5 0)) := v_V mk_284 mk_189 ck_189 ci_189 dL_law_571 q475
theorem vi_284_574 : VI 284 574 (kN (i_aload 2 1)) := (sp_aload_n (kd mk_284 dL_law_574)).sn
theorem vi_284_575 : VI 284 575 (kN (i_aload 0 1)) := (sp_aload_n (kd mk_284 dL_law_575)).sn
theorem vi_284_576 : VI 284 576 (kN (i_iload 3 1)) := (sp_iload_n (kd mk_284 dL_law_576)).sn
theorem vi_284_577 : VI 284 577 (kN (i_ic (nI 1) 1)) := (sp_iconst (kd mk_284 dL_law_577) (by decide +kernel)).sn
theorem vi_284_578 : VI 284 578 (kN (i_bin (fun x y => x + y))) := (sp_iadd (kd mk_284 dL_law_578)).sn
theorem vi_284_579 : VI 284 579 (kN (i_ald 40)) := (sp_sald (kd mk_284 dL_law_579)).sn
theorem vi_284_580 : VI 284 580 (kN (i_aload 0 1)) := (sp_aload_n (kd mk_284 dL_law_580)).sn
theorem vi_284_581 : VI 284 581 (kN (i_iload 3 1)) := (sp_iload_n (kd mk_284 dL_law_581)).sn
theorem vi_284_582 : VI 284 582 (kN (i_ic (nI 2) 1)) := (sp_iconst (kd mk_284 dL_law_582) (by decide +kernel)).sn
theorem vi_284_583 : VI 284 583 (kN (i_bin (fun x y => x + y))) := (sp_iadd (kd mk_284 dL_law_583)).sn
theorem vi_284_584 : VI 284 584 (kN (i_ald 40)) := (sp_sald (kd mk_284 dL_law_584)).sn
theorem vi_284_585 : VI 284 585 (kN (i_aload 0 1)) := (sp_aload_n (kd mk_284 dL_law_585)).sn
theorem vi_284_586 : VI 284 586 (kN (i_iload 3 1)) := (sp_iload_n (kd mk_284 dL_law_586)).sn
theorem vi_284_587 : VI 284 587 (kN (i_ic (nI 3) 1)) := (sp_iconst (kd mk_284 dL_law_587) (by decide +kernel)).sn
theorem vi_284_588 : VI 284 588 (kN (i_bin (fun x y => x + y))) := (sp_iadd (kd mk_284 dL_law_588)).sn
theorem vi_284_589 : VI 284 589 (kN (i_ald 40)) := (sp_sald (kd mk_284 dL_law_589)).sn
theorem vi_284_590 : VI 284 590 (kN (i_aload 0 1)) := (sp_aload_n (kd mk_284 dL_law_590)).sn
theorem vi_284_591 : VI 284 591 (kN (i_iload 3 1)) := (sp_iload_n (kd mk_284 dL_law_591)).sn
theorem vi_284_592 : VI 284 592 (kN (i_ic (nI 4) 1)) := (sp_iconst (kd mk_284 dL_law_592) (by decide +kernel)).sn
theorem vi_284_593 : VI 284 593 (kN (i_bin (fun x y => x + y))) := (sp_iadd (kd mk_284 dL_law_593)).sn
theorem vi_284_594 : VI 284 594 (kN (i_ald 40)) := (sp_sald (kd mk_284 dL_law_594)).sn
theorem vi_284_595 : VI 284 595 (kN (i_aload 0 1)) := (sp_aload_n (kd mk_284 dL_law_595)).sn
theorem vi_284_596 : VI 284 596 (kN (i_iload 3 1)) := (sp_iload_n (kd mk_284 dL_law_596)).sn
theorem vi_284_597 : VI 284 597 (kN (i_ic (nI 5) 1)) := (sp_iconst (kd mk_284 dL_law_597) (by decide +kernel)).sn
theorem vi_284_598 : VI 284 598 (kN (i_bin (fun x y => x + y))) := (sp_iadd (kd mk_284 dL_law_598)).sn
theorem vi_284_599 : VI 284 599 (kN (i_ald 40)) := (sp_sald (kd mk_284 dL_law_599)).sn
theorem vi_284_600 : VI 284 600 (kC (i_inV 58 5 3)) := v_V mk_284 mk_58 ck_58 ci_58 dL_law_600 q1437
theorem vi_284_603 : VI 284 603 (kN (i_ceq 1530)) := (sp_ceq (kd mk_284 dL_law_603) (by decide)).sn
theorem vi_284_606 : VI 284 606 (kN (i_ic (nI 0) 1)) := (sp_iconst (kd mk_284 dL_law_606) (by decide +kernel)).sn
theorem vi_284_607 : VI 284 607 (kR i_zret) := sr_z (kd mk_284 dL_law_607) mk_284.2.2.2
theorem vi_284_608 : VI 284 608 (kN (i_aload 1 1)) := (sp_aload_n (kd mk_284 dL_law_608)).sn
theorem vi_284_609 : VI 284 609 (kN (i_aload 0 1)) := (sp_aload_n (kd mk_284 dL_law_609)).sn
theorem vi_284_610 : VI 284 610 (kN (i_iload 3 1)) := (sp_iload_n (kd mk_284 dL_law_610)).sn
theorem vi_284_611 : VI 284 611 (kN (i_ic (nI 1) 1)) := (sp_iconst (kd mk_284 dL_law_611) (by decide +kernel)).sn
theorem vi_284_612 : VI 284 612 (kN (i_bin (fun x y => x + y))) := (sp_iadd (kd mk_284 dL_law_612)).sn
theorem vi_284_613 : VI 284 613 (kN (i_ald 40)) := (sp_sald (kd mk_284 dL_law_613)).sn
theorem vi_284_614 : VI 284 614 (kC (i_inV 190 1 0)) := v_V mk_284 mk_190 ck_190 ci_190 dL_law_614 q483
theorem vi_284_617 : VI 284 617 (kN (i_aload 2 1)) := (sp_aload_n (kd mk_284 dL_law_617)).sn
theorem vi_284_618 : VI 284 618 (kN (i_aload 0 1)) := (sp_aload_n (kd mk_284 dL_law_618)).sn
theorem vi_284_619 : VI 284 619 (kN (i_iload 3 1)) := (sp_iload_n (kd mk_284 dL_law_619)).sn
theorem vi_284_620 : VI 284 620 (kN (i_ic (nI 1) 1)) := (sp_iconst (kd mk_284 dL_law_620) (by decide +kernel)).sn
theorem vi_284_621 : VI 284 621 (kN (i_bin (fun x y => x + y))) := (sp_iadd (kd mk_284 dL_law_621)).sn
theorem vi_284_622 : VI 284 622 (kN (i_ald 40)) := (sp_sald (kd mk_284 dL_law_622)).sn
theorem vi_284_623 : VI 284 623 (kC (i_inV 59 1 3)) := v_V mk_284 mk_59 ck_59 ci_59 dL_law_623 q1441
theorem vi_284_626 : VI 284 626 (kN (i_ceq 1530)) := (sp_ceq (kd mk_284 dL_law_626) (by decide)).sn
theorem vi_284_629 : VI 284 629 (kN (i_ic (nI 0) 1)) := (sp_iconst (kd mk_284 dL_law_629) (by decide +kernel)).sn
theorem vi_284_630 : VI 284 630 (kR i_zret) := sr_z (kd mk_284 dL_law_630) mk_284.2.2.2
theorem vi_284_631 : VI 284 631 (kN (i_aload 1 1)) := (sp_aload_n (kd mk_284 dL_law_631)).sn
theorem vi_284_632 : VI 284 632 (kN (i_aload 0 1)) := (sp_aload_n (kd mk_284 dL_law_632)).sn
theorem vi_284_633 : VI 284 633 (kN (i_iload 3 1)) := (sp_iload_n (kd mk_284 dL_law_633)).sn
theorem vi_284_634 : VI 284 634 (kN (i_ic (nI 1) 1)) := (sp_iconst (kd mk_284 dL_law_634) (by decide +kernel)).sn
theorem vi_284_635 : VI 284 635 (kN (i_bin (fun x y => x + y))) := (sp_iadd (kd mk_284 dL_law_635)).sn
theorem vi_284_636 : VI 284 636 (kN (i_ald 40)) := (sp_sald (kd mk_284 dL_law_636)).sn
theorem vi_284_637 : VI 284 637 (kC (i_inV 220 1 0)) := sc_V220 (kd mk_284 dL_law_637) (krc mk_220 ⟨by decide, _, rfl, rfl⟩) (km2 mk_284 mk_220 q490) (kws (w := Cond.instanceMethod) mk_220 q491) (ksel mk_220 q492) (by rw [mk_220.1]; exact q134) (by rw [mk_220.1, mk_220.2.1, mk_220.2.2.1, mk_220.2.2.2]; exact q493) (by rw [mk_220.1]; exact ⟨⟨by decide +kernel, by decide +kernel⟩, by decide +kernel⟩) (by rw [mk_220.2.2.1]; decide) (by rw [mk_220.2.2.1]; decide)
theorem vi_284_640 : VI 284 640 (kN (i_aload 2 1)) := (sp_aload_n (kd mk_284 dL_law_640)).sn
theorem vi_284_641 : VI 284 641 (kN (i_aload 0 1)) := (sp_aload_n (kd mk_284 dL_law_641)).sn
theorem vi_284_642 : VI 284 642 (kN (i_iload 3 1)) := (sp_iload_n (kd mk_284 dL_law_642)).sn
theorem vi_284_643 : VI 284 643 (kN (i_ic (nI 1) 1)) := (sp_iconst (kd mk_284 dL_law_643) (by decide +kernel)).sn
theorem vi_284_644 : VI 284 644 (kN (i_bin (fun x y => x + y))) := (sp_iadd (kd mk_284 dL_law_644)).sn
theorem vi_284_645 : VI 284 645 (kN (i_ald 40)) := (sp_sald (kd mk_284 dL_law_645)).sn
theorem vi_284_646 : VI 284 646 (kC (i_inV 93 1 3)) := v_V mk_284 mk_93 ck_93 ci_93 dL_law_646 q1445
theorem vi_284_649 : VI 284 649 (kN (i_ceq 1530)) := (sp_ceq (kd mk_284 dL_law_649) (by decide)).sn
theorem vi_284_652 : VI 284 652 (kN (i_ic (nI 0) 1)) := (sp_iconst (kd mk_284 dL_law_652) (by decide +kernel)).sn
theorem vi_284_653 : VI 284 653 (kR i_zret) := sr_z (kd mk_284 dL_law_653) mk_284.2.2.2
theorem vi_284_654 : VI 284 654 (kN (i_aload 1 1)) := (sp_aload_n (kd mk_284 dL_law_654)).sn
theorem vi_284_655 : VI 284 655 (kN (i_aload 0 1)) := (sp_aload_n (kd mk_284 dL_law_655)).sn
theorem vi_284_656 : VI 284 656 (kN (i_iload 3 1)) := (sp_iload_n (kd mk_284 dL_law_656)).sn
theorem vi_284_657 : VI 284 657 (kN (i_ic (nI 1) 1)) := (sp_iconst (kd mk_284 dL_law_657) (by decide +kernel)).sn
theorem vi_284_658 : VI 284 658 (kN (i_bin (fun x y => x + y))) := (sp_iadd (kd mk_284 dL_law_658)).sn
theorem vi_284_659 : VI 284 659 (kN (i_ald 40)) := (sp_sald (kd mk_284 dL_law_659)).sn
theorem vi_284_660 : VI 284 660 (kC (i_inV 221 1 0)) := v_V mk_284 mk_221 ck_221 ci_221 dL_law_660 q870
theorem vi_284_663 : VI 284 663 (kN (i_aload 2 1)) := (sp_aload_n (kd mk_284 dL_law_663)).sn
theorem vi_284_664 : VI 284 664 (kN (i_aload 0 1)) := (sp_aload_n (kd mk_284 dL_law_664)).sn
theorem vi_284_665 : VI 284 665 (kN (i_iload 3 1)) := (sp_iload_n (kd mk_284 dL_law_665)).sn
theorem vi_284_666 : VI 284 666 (kN (i_ic (nI 1) 1)) := (sp_iconst (kd mk_284 dL_law_666) (by decide +kernel)).sn
theorem vi_284_667 : VI 284 667 (kN (i_bin (fun x y => x + y))) := (sp_iadd (kd mk_284 dL_law_667)).sn
theorem vi_284_668 : VI 284 668 (kN (i_ald 40)) := (sp_sald (kd mk_284 dL_law_668)).sn
theorem vi_284_669 : VI 284 669 (kC (i_inV 94 1 3)) := v_V mk_284 mk_94 ck_94 ci_94 dL_law_669 q1604
theorem vi_284_672 : VI 284 672 (kN (i_ceq 1530)) := (sp_ceq (kd mk_284 dL_law_672) (by decide)).sn
theorem vi_284_675 : VI 284 675 (kN (i_ic (nI 0) 1)) := (sp_iconst (kd mk_284 dL_law_675) (by decide +kernel)).sn
theorem vi_284_676 : VI 284 676 (kR i_zret) := sr_z (kd mk_284 dL_law_676) mk_284.2.2.2
theorem vi_284_677 : VI 284 677 (kN (i_aload 1 1)) := (sp_aload_n (kd mk_284 dL_law_677)).sn
theorem vi_284_678 : VI 284 678 (kN (i_aload 0 1)) := (sp_aload_n (kd mk_284 dL_law_678)).sn
theorem vi_284_679 : VI 284 679 (kN (i_iload 3 1)) := (sp_iload_n (kd mk_284 dL_law_679)).sn
theorem vi_284_680 : VI 284 680 (kN (i_ic (nI 1) 1)) := (sp_iconst (kd mk_284 dL_law_680) (by decide +kernel)).sn
theorem vi_284_681 : VI 284 681 (kN (i_bin (fun x y => x + y))) := (sp_iadd (kd mk_284 dL_law_681)).sn
theorem vi_284_682 : VI 284 682 (kN (i_ald 40)) := (sp_sald (kd mk_284 dL_law_682)).sn
theorem vi_284_683 : VI 284 683 (kN (i_aload 0 1)) := (sp_aload_n (kd mk_284 dL_law_683)).sn
theorem vi_284_684 : VI 284 684 (kN (i_iload 3 1)) := (sp_iload_n (kd mk_284 dL_law_684)).sn
theorem vi_284_685 : VI 284 685 (kN (i_ic (nI 2) 1)) := (sp_iconst (kd mk_284 dL_law_685) (by decide +kernel)).sn
theorem vi_284_686 : VI 284 686 (kN (i_bin (fun x y => x + y))) := (sp_iadd (kd mk_284 dL_law_686)).sn
theorem vi_284_687 : VI 284 687 (kN (i_ald 40)) := (sp_sald (kd mk_284 dL_law_687)).sn
theorem vi_284_688 : VI 284 688 (kC (i_inV 240 2 0)) := v_V mk_284 mk_240 ck_240 ci_240 dL_law_688 q1068
theorem vi_284_691 : VI 284 691 (kN (i_aload 2 1)) := (sp_aload_n (kd mk_284 dL_law_691)).sn
theorem vi_284_692 : VI 284 692 (kN (i_aload 0 1)) := (sp_aload_n (kd mk_284 dL_law_692)).sn
theorem vi_284_693 : VI 284 693 (kN (i_iload 3 1)) := (sp_iload_n (kd mk_284 dL_law_693)).sn
theorem vi_284_694 : VI 284 694 (kN (i_ic (nI 1) 1)) := (sp_iconst (kd mk_284 dL_law_694) (by decide +kernel)).sn
theorem vi_284_695 : VI 284 695 (kN (i_bin (fun x y => x + y))) := (sp_iadd (kd mk_284 dL_law_695)).sn
theorem vi_284_696 : VI 284 696 (kN (i_ald 40)) := (sp_sald (kd mk_284 dL_law_696)).sn
theorem vi_284_697 : VI 284 697 (kN (i_aload 0 1)) := (sp_aload_n (kd mk_284 dL_law_697)).sn
theorem vi_284_698 : VI 284 698 (kN (i_iload 3 1)) := (sp_iload_n (kd mk_284 dL_law_698)).sn
theorem vi_284_699 : VI 284 699 (kN (i_ic (nI 2) 1)) := (sp_iconst (kd mk_284 dL_law_699) (by decide +kernel)).sn
theorem vi_284_700 : VI 284 700 (kN (i_bin (fun x y => x + y))) := (sp_iadd (kd mk_284 dL_law_700)).sn
theorem vi_284_701 : VI 284 701 (kN (i_ald 40)) := (sp_sald (kd mk_284 dL_law_701)).sn
theorem vi_284_702 : VI 284 702 (kC (i_inV 122 2 3)) := v_V mk_284 mk_122 ck_122 ci_122 dL_law_702 q1738
theorem vi_284_705 : VI 284 705 (kN (i_ceq 1530)) := (sp_ceq (kd mk_284 dL_law_705) (by decide)).sn
theorem vi_284_708 : VI 284 708 (kN (i_ic (nI 0) 1)) := (sp_iconst (kd mk_284 dL_law_708) (by decide +kernel)).sn
theorem vi_284_709 : VI 284 709 (kR i_zret) := sr_z (kd mk_284 dL_law_709) mk_284.2.2.2
theorem vi_284_710 : VI 284 710 (kN (i_aload 1 1)) := (sp_aload_n (kd mk_284 dL_law_710)).sn
theorem vi_284_711 : VI 284 711 (kN (i_aload 0 1)) := (sp_aload_n (kd mk_284 dL_law_711)).sn
theorem vi_284_712 : VI 284 712 (kN (i_iload 3 1)) := (sp_iload_n (kd mk_284 dL_law_712)).sn
theorem vi_284_713 : VI 284 713 (kN (i_ic (nI 1) 1)) := (sp_iconst (kd mk_284 dL_law_713) (by decide +kernel)).sn
theorem vi_284_714 : VI 284 714 (kN (i_bin (fun x y => x + y))) := (sp_iadd (kd mk_284 dL_law_714)).sn
theorem vi_284_715 : VI 284 715 (kN (i_ald 40)) := (sp_sald (kd mk_284 dL_law_715)).sn
theorem vi_284_716 : VI 284 716 (kN (i_aload 0 1)) := (sp_aload_n (kd mk_284 dL_law_716)).sn
theorem vi_284_717 : VI 284 717 (kN (i_iload 3 1)) := (sp_iload_n (kd mk_284 dL_law_717)).sn
theorem vi_284_718 : VI 284 718 (kN (i_ic (nI 2) 1)) := (sp_iconst (kd mk_284 dL_law_718) (by decide +kernel)).sn
theorem vi_284_719 : VI 284 719 (kN (i_bin (fun x y => x + y))) := (sp_iadd (kd mk_284 dL_law_719)).sn
theorem vi_284_720 : VI 284 720 (kN (i_ald 40)) := (sp_sald (kd mk_284 dL_law_720)).sn
theorem vi_284_721 : VI 284 721 (kC (i_inV 241 2 0)) := v_V mk_284 mk_241 ck_241 ci_241 dL_law_721 q1074
theorem vi_284_724 : VI 284 724 (kN (i_aload 2 1)) := (sp_aload_n (kd mk_284 dL_law_724)).sn
theorem vi_284_725 : VI 284 725 (kN (i_aload 0 1)) := (sp_aload_n (kd mk_284 dL_law_725)).sn
theorem vi_284_726 : VI 284 726 (kN (i_iload 3 1)) := (sp_iload_n (kd mk_284 dL_law_726)).sn
theorem vi_284_727 : VI 284 727 (kN (i_ic (nI 1) 1)) := (sp_iconst (kd mk_284 dL_law_727) (by decide +kernel)).sn
theorem vi_284_728 : VI 284 728 (kN (i_bin (fun x y => x + y))) := (sp_iadd (kd mk_284 dL_law_728)).sn
theorem vi_284_729 : VI 284 729 (kN (i_ald 40)) := (sp_sald (kd mk_284 dL_law_729)).sn
theorem vi_284_730 : VI 284 730 (kN (i_aload 0 1)) := (sp_aload_n (kd mk_284 dL_law_730)).sn
theorem vi_284_731 : VI 284 731 (kN (i_iload 3 1)) := (sp_iload_n (kd mk_284 dL_law_731)).sn
theorem vi_284_732 : VI 284 732 (kN (i_ic (nI 2) 1)) := (sp_iconst (kd mk_284 dL_law_732) (by decide +kernel)).sn
theorem vi_284_733 : VI 284 733 (kN (i_bin (fun x y => x + y))) := (sp_iadd (kd mk_284 dL_law_733)).sn
theorem vi_284_734 : VI 284 734 (kN (i_ald 40)) := (sp_sald (kd mk_284 dL_law_734)).sn
theorem vi_284_735 : VI 284 735 (kC (i_inV 123 2 3)) := v_V mk_284 mk_123 ck_123 ci_123 dL_law_735 q1742
theorem vi_284_738 : VI 284 738 (kN (i_ceq 1530)) := (sp_ceq (kd mk_284 dL_law_738) (by decide)).sn
theorem vi_284_741 : VI 284 741 (kN (i_ic (nI 0) 1)) := (sp_iconst (kd mk_284 dL_law_741) (by decide +kernel)).sn
theorem vi_284_742 : VI 284 742 (kR i_zret) := sr_z (kd mk_284 dL_law_742) mk_284.2.2.2
theorem vi_284_743 : VI 284 743 (kN (i_aload 1 1)) := (sp_aload_n (kd mk_284 dL_law_743)).sn
theorem vi_284_744 : VI 284 744 (kN (i_aload 0 1)) := (sp_aload_n (kd mk_284 dL_law_744)).sn
theorem vi_284_745 : VI 284 745 (kN (i_iload 3 1)) := (sp_iload_n (kd mk_284 dL_law_745)).sn
theorem vi_284_746 : VI 284 746 (kN (i_ic (nI 1) 1)) := (sp_iconst (kd mk_284 dL_law_746) (by decide +kernel)).sn
theorem vi_284_747 : VI 284 747 (kN (i_bin (fun x y => x + y))) := (sp_iadd (kd mk_284 dL_law_747)).sn
theorem vi_284_748 : VI 284 748 (kN (i_ald 40)) := (sp_sald (kd mk_284 dL_law_748)).sn
theorem vi_284_749 : VI 284 749 (kC (i_inV 242 1 0)) := v_V mk_284 mk_242 ck_242 ci_242 dL_law_749 q1080
theorem vi_284_752 : VI 284 752 (kN (i_aload 2 1)) := (sp_aload_n (kd mk_284 dL_law_752)).sn
theorem vi_284_753 : VI 284 753 (kN (i_aload 0 1)) := (sp_aload_n (kd mk_284 dL_law_753)).sn
theorem vi_284_754 : VI 284 754 (kN (i_iload 3 1)) := (sp_iload_n (kd mk_284 dL_law_754)).sn
theorem vi_284_755 : VI 284 755 (kN (i_ic (nI 1) 1)) := (sp_iconst (kd mk_284 dL_law_755) (by decide +kernel)).sn
theorem vi_284_756 : VI 284 756 (kN (i_bin (fun x y => x + y))) := (sp_iadd (kd mk_284 dL_law_756)).sn
theorem vi_284_757 : VI 284 757 (kN (i_ald 40)) := (sp_sald (kd mk_284 dL_law_757)).sn
theorem vi_284_758 : VI 284 758 (kC (i_inV 124 1 3)) := v_V mk_284 mk_124 ck_124 ci_124 dL_law_758 q1746
theorem vi_284_761 : VI 284 761 (kN (i_ceq 1530)) := (sp_ceq (kd mk_284 dL_law_761) (by decide)).sn
theorem vi_284_764 : VI 284 764 (kN (i_ic (nI 0) 1)) := (sp_iconst (kd mk_284 dL_law_764) (by decide +kernel)).sn
theorem vi_284_765 : VI 284 765 (kR i_zret) := sr_z (kd mk_284 dL_law_765) mk_284.2.2.2
theorem vi_284_766 : VI 284 766 (kN (i_aload 1 1)) := (sp_aload_n (kd mk_284 dL_law_766)).sn
theorem vi_284_767 : VI 284 767 (kN (i_aload 0 1)) := (sp_aload_n (kd mk_284 dL_law_767)).sn
theorem vi_284_768 : VI 284 768 (kN (i_iload 3 1)) := (sp_iload_n (kd mk_284 dL_law_768)).sn
theorem vi_284_769 : VI 284 769 (kN (i_ic (nI 1) 1)) := (sp_iconst (kd mk_284 dL_law_769) (by decide +kernel)).sn
theorem vi_284_770 : VI 284 770 (kN (i_bin (fun x y => x + y))) := (sp_iadd (kd mk_284 dL_law_770)).sn
theorem vi_284_771 : VI 284 771 (kN (i_ald 40)) := (sp_sald (kd mk_284 dL_law_771)).sn
theorem vi_284_772 : VI 284 772 (kN (i_aload 0 1)) := (sp_aload_n (kd mk_284 dL_law_772)).sn
theorem vi_284_773 : VI 284 773 (kN (i_iload 3 1)) := (sp_iload_n (kd mk_284 dL_law_773)).sn
theorem vi_284_774 : VI 284 774 (kN (i_ic (nI 2) 1)) := (sp_iconst (kd mk_284 dL_law_774) (by decide +kernel)).sn
theorem vi_284_775 : VI 284 775 (kN (i_bin (fun x y => x + y))) := (sp_iadd (kd mk_284 dL_law_775)).sn
theorem vi_284_776 : VI 284 776 (kN (i_ald 40)) := (sp_sald (kd mk_284 dL_law_776)).sn
theorem vi_284_777 : VI 284 777 (kC (i_inV 243 2 0)) := v_V mk_284 mk_243 ck_243 ci_243 dL_law_777 q1086
theorem vi_284_780 : VI 284 780 (kN (i_aload 2 1)) := (sp_aload_n (kd mk_284 dL_law_780)).sn
theorem vi_284_781 : VI 284 781 (kN (i_aload 0 1)) := (sp_aload_n (kd mk_284 dL_law_781)).sn
theorem vi_284_782 : VI 284 782 (kN (i_iload 3 1)) := (sp_iload_n (kd mk_284 dL_law_782)).sn
theorem vi_284_783 : VI 284 783 (kN (i_ic (nI 1) 1)) := (sp_iconst (kd mk_284 dL_law_783) (by decide +kernel)).sn
theorem vi_284_784 : VI 284 784 (kN (i_bin (fun x y => x + y))) := (sp_iadd (kd mk_284 dL_law_784)).sn
theorem vi_284_785 : VI 284 785 (kN (i_ald 40)) := (sp_sald (kd mk_284 dL_law_785)).sn
theorem vi_284_786 : VI 284 786 (kN (i_aload 0 1)) := (sp_aload_n (kd mk_284 dL_law_786)).sn
theorem vi_284_787 : VI 284 787 (kN (i_iload 3 1)) := (sp_iload_n (kd mk_284 dL_law_787)).sn
theorem vi_284_788 : VI 284 788 (kN (i_ic (nI 2) 1)) := (sp_iconst (kd mk_284 dL_law_788) (by decide +kernel)).sn
theorem vi_284_789 : VI 284 789 (kN (i_bin (fun x y => x + y))) := (sp_iadd (kd mk_284 dL_law_789)).sn
theorem vi_284_790 : VI 284 790 (kN (i_ald 40)) := (sp_sald (kd mk_284 dL_law_790)).sn
theorem vi_284_791 : VI 284 791 (kC (i_inV 125 2 3)) := v_V mk_284 mk_125 ck_125 ci_125 dL_law_791 q1750
theorem vi_284_794 : VI 284 794 (kN (i_ceq 1530)) := (sp_ceq (kd mk_284 dL_law_794) (by decide)).sn
theorem vi_284_797 : VI 284 797 (kN (i_ic (nI 0) 1)) := (sp_iconst (kd mk_284 dL_law_797) (by decide +kernel)).sn
theorem vi_284_798 : VI 284 798 (kR i_zret) := sr_z (kd mk_284 dL_law_798) mk_284.2.2.2
theorem vi_284_799 : VI 284 799 (kN (i_aload 1 1)) := (sp_aload_n (kd mk_284 dL_law_799)).sn
theorem vi_284_800 : VI 284 800 (kN (i_aload 0 1)) := (sp_aload_n (kd mk_284 dL_law_800)).sn
theorem vi_284_801 : VI 284 801 (kN (i_iload 3 1)) := (sp_iload_n (kd mk_284 dL_law_801)).sn
theorem vi_284_802 : VI 284 802 (kN (i_ic (nI 1) 1)) := (sp_iconst (kd mk_284 dL_law_802) (by decide +kernel)).sn
theorem vi_284_803 : VI 284 803 (kN (i_bin (fun x y => x + y))) := (sp_iadd (kd mk_284 dL_law_803)).sn
theorem vi_284_804 : VI 284 804 (kN (i_ald 40)) := (sp_sald (kd mk_284 dL_law_804)).sn
theorem vi_284_805 : VI 284 805 (kC (i_inV 244 1 0)) := v_V mk_284 mk_244 ck_244 ci_244 dL_law_805 q1090
theorem vi_284_808 : VI 284 808 (kN (i_aload 2 1)) := (sp_aload_n (kd mk_284 dL_law_808)).sn
theorem vi_284_809 : VI 284 809 (kN (i_aload 0 1)) := (sp_aload_n (kd mk_284 dL_law_809)).sn
theorem vi_284_810 : VI 284 810 (kN (i_iload 3 1)) := (sp_iload_n (kd mk_284 dL_law_810)).sn
theorem vi_284_811 : VI 284 811 (kN (i_ic (nI 1) 1)) := (sp_iconst (kd mk_284 dL_law_811) (by decide +kernel)).sn
theorem vi_284_812 : VI 284 812 (kN (i_bin (fun x y => x + y))) := (sp_iadd (kd mk_284 dL_law_812)).sn
theorem vi_284_813 : VI 284 813 (kN (i_ald 40)) := (sp_sald (kd mk_284 dL_law_813)).sn
theorem vi_284_814 : VI 284 814 (kC (i_inV 128 1 3)) := v_V mk_284 mk_128 ck_128 ci_128 dL_law_814 q1754
theorem vi_284_817 : VI 284 817 (kN (i_ceq 1530)) := (sp_ceq (kd mk_284 dL_law_817) (by decide)).sn
theorem vi_284_820 : VI 284 820 (kN (i_ic (nI 0) 1)) := (sp_iconst (kd mk_284 dL_law_820) (by decide +kernel)).sn
theorem vi_284_821 : VI 284 821 (kR i_zret) := sr_z (kd mk_284 dL_law_821) mk_284.2.2.2
theorem vi_284_822 : VI 284 822 (kN (i_aload 1 1)) := (sp_aload_n (kd mk_284 dL_law_822)).sn
theorem vi_284_823 : VI 284 823 (kN (i_aload 0 1)) := (sp_aload_n (kd mk_284 dL_law_823)).sn
theorem vi_284_824 : VI 284 824 (kN (i_iload 3 1)) := (sp_iload_n (kd mk_284 dL_law_824)).sn
theorem vi_284_825 : VI 284 825 (kN (i_ic (nI 1) 1)) := (sp_iconst (kd mk_284 dL_law_825) (by decide +kernel)).sn
theorem vi_284_826 : VI 284 826 (kN (i_bin (fun x y => x + y))) := (sp_iadd (kd mk_284 dL_law_826)).sn
theorem vi_284_827 : VI 284 827 (kN (i_ald 40)) := (sp_sald (kd mk_284 dL_law_827)).sn
theorem vi_284_828 : VI 284 828 (kN (i_aload 0 1)) := (sp_aload_n (kd mk_284 dL_law_828)).sn
theorem vi_284_829 : VI 284 829 (kN (i_iload 3 1)) := (sp_iload_n (kd mk_284 dL_law_829)).sn
theorem vi_284_830 : VI 284 830 (kN (i_ic (nI 2) 1)) := (sp_iconst (kd mk_284 dL_law_830) (by decide +kernel)).sn
theorem vi_284_831 : VI 284 831 (kN (i_bin (fun x y => x + y))) := (sp_iadd (kd mk_284 dL_law_831)).sn
theorem vi_284_832 : VI 284 832 (kN (i_ald 40)) := (sp_sald (kd mk_284 dL_law_832)).sn
theorem vi_284_833 : VI 284 833 (kC (i_inV 245 2 0)) := v_V mk_284 mk_245 ck_245 ci_245 dL_law_833 q1100
theorem vi_284_836 : VI 284 836 (kN (i_aload 2 1)) := (sp_aload_n (kd mk_284 dL_law_836)).sn
theorem vi_284_837 : VI 284 837 (kN (i_aload 0 1)) := (sp_aload_n (kd mk_284 dL_law_837)).sn
theorem vi_284_838 : VI 284 838 (kN (i_iload 3 1)) := (sp_iload_n (kd mk_284 dL_law_838)).sn
theorem vi_284_839 : VI 284 839 (kN (i_ic (nI 1) 1)) := (sp_iconst (kd mk_284 dL_law_839) (by decide +kernel)).sn
theorem vi_284_840 : VI 284 840 (kN (i_bin (fun x y => x + y))) := (sp_iadd (kd mk_284 dL_law_840)).sn
theorem vi_284_841 : VI 284 841 (kN (i_ald 40)) := (sp_sald (kd mk_284 dL_law_841)).sn
theorem vi_284_842 : VI 284 842 (kN (i_aload 0 1)) := (sp_aload_n (kd mk_284 dL_law_842)).sn
theorem vi_284_843 : VI 284 843 (kN (i_iload 3 1)) := (sp_iload_n (kd mk_284 dL_law_843)).sn
theorem vi_284_844 : VI 284 844 (kN (i_ic (nI 2) 1)) := (sp_iconst (kd mk_284 dL_law_844) (by decide +kernel)).sn
theorem vi_284_845 : VI 284 845 (kN (i_bin (fun x y => x + y))) := (sp_iadd (kd mk_284 dL_law_845)).sn
theorem vi_284_846 : VI 284 846 (kN (i_ald 40)) := (sp_sald (kd mk_284 dL_law_846)).sn
theorem vi_284_847 : VI 284 847 (kC (i_inV 129 2 3)) := v_V mk_284 mk_129 ck_129 ci_129 dL_law_847 q1767
theorem vi_284_850 : VI 284 850 (kN (i_ceq 1530)) := (sp_ceq (kd mk_284 dL_law_850) (by decide)).sn
theorem vi_284_853 : VI 284 853 (kN (i_ic (nI 0) 1)) := (sp_iconst (kd mk_284 dL_law_853) (by decide +kernel)).sn
theorem vi_284_854 : VI 284 854 (kR i_zret) := sr_z (kd mk_284 dL_law_854) mk_284.2.2.2
theorem vi_284_855 : VI 284 855 (kN (i_aload 1 1)) := (sp_aload_n (kd mk_284 dL_law_855)).sn
theorem vi_284_856 : VI 284 856 (kN (i_aload 0 1)) := (sp_aload_n (kd mk_284 dL_law_856)).sn
theorem vi_284_857 : VI 284 857 (kN (i_iload 3 1)) := (sp_iload_n (kd mk_284 dL_law_857)).sn
theorem vi_284_858 : VI 284 858 (kN (i_ic (nI 1) 1)) := (sp_iconst (kd mk_284 dL_law_858) (by decide +kernel)).sn
theorem vi_284_859 : VI 284 859 (kN (i_bin (fun x y => x + y))) := (sp_iadd (kd mk_284 dL_law_859)).sn
theorem vi_284_860 : VI 284 860 (kN (i_ald 40)) := (sp_sald (kd mk_284 dL_law_860)).sn
theorem vi_284_861 : VI 284 861 (kN (i_aload 0 1)) := (sp_aload_n (kd mk_284 dL_law_861)).sn
theorem vi_284_862 : VI 284 862 (kN (i_iload 3 1)) := (sp_iload_n (kd mk_284 dL_law_862)).sn
theorem vi_284_863 : VI 284 863 (kN (i_ic (nI 2) 1)) := (sp_iconst (kd mk_284 dL_law_863) (by decide +kernel)).sn
theorem vi_284_864 : VI 284 864 (kN (i_bin (fun x y => x + y))) := (sp_iadd (kd mk_284 dL_law_864)).sn
theorem vi_284_865 : VI 284 865 (kN (i_ald 40)) := (sp_sald (kd mk_284 dL_law_865)).sn
theorem vi_284_866 : VI 284 866 (kN (i_aload 0 1)) := (sp_aload_n (kd mk_284 dL_law_866)).sn
theorem vi_284_867 : VI 284 867 (kN (i_iload 3 1)) := (sp_iload_n (kd mk_284 dL_law_867)).sn
theorem vi_284_868 : VI 284 868 (kN (i_ic (nI 3) 1)) := (sp_iconst (kd mk_284 dL_law_868) (by decide +kernel)).sn
theorem vi_284_869 : VI 284 869 (kN (i_bin (fun x y => x + y))) := (sp_iadd (kd mk_284 dL_law_869)).sn
theorem vi_284_870 : VI 284 870 (kN (i_ald 40)) := (sp_sald (kd mk_284 dL_law_870)).sn
theorem vi_284_871 : VI 284 871 (kC (i_inV 247 3 0)) := v_V mk_284 mk_247 ck_247 ci_247 dL_law_871 q1105
theorem vi_284_874 : VI 284 874 (kN (i_aload 2 1)) := (sp_aload_n (kd mk_284 dL_law_874)).sn
theorem vi_284_875 : VI 284 875 (kN (i_aload 0 1)) := (sp_aload_n (kd mk_284 dL_law_875)).sn
theorem vi_284_876 : VI 284 876 (kN (i_iload 3 1)) := (sp_iload_n (kd mk_284 dL_law_876)).sn
theorem vi_284_877 : VI 284 877 (kN (i_ic (nI 1) 1)) := (sp_iconst (kd mk_284 dL_law_877) (by decide +kernel)).sn
theorem vi_284_878 : VI 284 878 (kN (i_bin (fun x y => x + y))) := (sp_iadd (kd mk_284 dL_law_878)).sn
theorem vi_284_879 : VI 284 879 (kN (i_ald 40)) := (sp_sald (kd mk_284 dL_law_879)).sn
theorem vi_284_880 : VI 284 880 (kN (i_aload 0 1)) := (sp_aload_n (kd mk_284 dL_law_880)).sn
theorem vi_284_881 : VI 284 881 (kN (i_iload 3 1)) := (sp_iload_n (kd mk_284 dL_law_881)).sn
theorem vi_284_882 : VI 284 882 (kN (i_ic (nI 2) 1)) := (sp_iconst (kd mk_284 dL_law_882) (by decide +kernel)).sn
theorem vi_284_883 : VI 284 883 (kN (i_bin (fun x y => x + y))) := (sp_iadd (kd mk_284 dL_law_883)).sn
theorem vi_284_884 : VI 284 884 (kN (i_ald 40)) := (sp_sald (kd mk_284 dL_law_884)).sn
theorem vi_284_885 : VI 284 885 (kN (i_aload 0 1)) := (sp_aload_n (kd mk_284 dL_law_885)).sn
theorem vi_284_886 : VI 284 886 (kN (i_iload 3 1)) := (sp_iload_n (kd mk_284 dL_law_886)).sn
theorem vi_284_887 : VI 284 887 (kN (i_ic (nI 3) 1)) := (sp_iconst (kd mk_284 dL_law_887) (by decide +kernel)).sn
theorem vi_284_888 : VI 284 888 (kN (i_bin (fun x y => x + y))) := (sp_iadd (kd mk_284 dL_law_888)).sn
theorem vi_284_889 : VI 284 889 (kN (i_ald 40)) := (sp_sald (kd mk_284 dL_law_889)).sn
theorem vi_284_890 : VI 284 890 (kC (i_inV 131 3 3)) := v_V mk_284 mk_131 ck_131 ci_131 dL_law_890 q1771
theorem vi_284_893 : VI 284 893 (kN (i_ceq 1530)) := (sp_ceq (kd mk_284 dL_law_893) (by decide)).sn
theorem vi_284_896 : VI 284 896 (kN (i_ic (nI 0) 1)) := (sp_iconst (kd mk_284 dL_law_896) (by decide +kernel)).sn
theorem vi_284_897 : VI 284 897 (kR i_zret) := sr_z (kd mk_284 dL_law_897) mk_284.2.2.2
theorem vi_284_898 : VI 284 898 (kN (i_aload 1 1)) := (sp_aload_n (kd mk_284 dL_law_898)).sn
theorem vi_284_899 : VI 284 899 (kN (i_aload 0 1)) := (sp_aload_n (kd mk_284 dL_law_899)).sn
theorem vi_284_900 : VI 284 900 (kN (i_iload 3 1)) := (sp_iload_n (kd mk_284 dL_law_900)).sn
theorem vi_284_901 : VI 284 901 (kN (i_ic (nI 1) 1)) := (sp_iconst (kd mk_284 dL_law_901) (by decide +kernel)).sn
theorem vi_284_902 : VI 284 902 (kN (i_bin (fun x y => x + y))) := (sp_iadd (kd mk_284 dL_law_902)).sn
theorem vi_284_903 : VI 284 903 (kN (i_ald 40)) := (sp_sald (kd mk_284 dL_law_903)).sn
theorem vi_284_904 : VI 284 904 (kN (i_aload 0 1)) := (sp_aload_n (kd mk_284 dL_law_904)).sn
theorem vi_284_905 : VI 284 905 (kN (i_iload 3 1)) := (sp_iload_n (kd mk_284 dL_law_905)).sn
theorem vi_284_906 : VI 284 906 (kN (i_ic (nI 2) 1)) := (sp_iconst (kd mk_284 dL_law_906) (by decide +kernel)).sn
theorem vi_284_907 : VI 284 907 (kN (i_bin (fun x y => x + y))) := (sp_iadd (kd mk_284 dL_law_907)).sn
theorem vi_284_908 : VI 284 908 (kN (i_ald 40)) := (sp_sald (kd mk_284 dL_law_908)).sn
theorem vi_284_909 : VI 284 909 (kC (i_inV 253 2 0)) := v_V mk_284 mk_253 ck_253 ci_253 dL_law_909 q1130
theorem vi_284_912 : VI 284 912 (kN (i_aload 2 1)) := (sp_aload_n (kd mk_284 dL_law_912)).sn
theorem vi_284_913 : VI 284 913 (kN (i_aload 0 1)) := (sp_aload_n (kd mk_284 dL_law_913)).sn
theorem vi_284_914 : VI 284 914 (kN (i_iload 3 1)) := (sp_iload_n (kd mk_284 dL_law_914)).sn
theorem vi_284_915 : VI 284 915 (kN (i_ic (nI 1) 1)) := (sp_iconst (kd mk_284 dL_law_915) (by decide +kernel)).sn
theorem vi_284_916 : VI 284 916 (kN (i_bin (fun x y => x + y))) := (sp_iadd (kd mk_284 dL_law_916)).sn
theorem vi_284_917 : VI 284 917 (kN (i_ald 40)) := (sp_sald (kd mk_284 dL_law_917)).sn
theorem vi_284_918 : VI 284 918 (kN (i_aload 0 1)) := (sp_aload_n (kd mk_284 dL_law_918)).sn
theorem vi_284_919 : VI 284 919 (kN (i_iload 3 1)) := (sp_iload_n (kd mk_284 dL_law_919)).sn
theorem vi_284_920 : VI 284 920 (kN (i_ic (nI 2) 1)) := (sp_iconst (kd mk_284 dL_law_920) (by decide +kernel)).sn
theorem vi_284_921 : VI 284 921 (kN (i_bin (fun x y => x + y))) := (sp_iadd (kd mk_284 dL_law_921)).sn
theorem vi_284_922 : VI 284 922 (kN (i_ald 40)) := (sp_sald (kd mk_284 dL_law_922)).sn
theorem vi_284_923 : VI 284 923 (kC (i_inV 140 2 3)) := v_V mk_284 mk_140 ck_140 ci_140 dL_law_923 q1804
theorem vi_284_926 : VI 284 926 (kN (i_ceq 1530)) := (sp_ceq (kd mk_284 dL_law_926) (by decide)).sn
theorem vi_284_929 : VI 284 929 (kN (i_ic (nI 0) 1)) := (sp_iconst (kd mk_284 dL_law_929) (by decide +kernel)).sn
theorem vi_284_930 : VI 284 930 (kR i_zret) := sr_z (kd mk_284 dL_law_930) mk_284.2.2.2
theorem vi_284_931 : VI 284 931 (kN (i_aload 1 1)) := (sp_aload_n (kd mk_284 dL_law_931)).sn
theorem vi_284_932 : VI 284 932 (kN (i_aload 0 1)) := (sp_aload_n (kd mk_284 dL_law_932)).sn
theorem vi_284_933 : VI 284 933 (kN (i_iload 3 1)) := (sp_iload_n (kd mk_284 dL_law_933)).sn
theorem vi_284_934 : VI 284 934 (kN (i_ic (nI 1) 1)) := (sp_iconst (kd mk_284 dL_law_934) (by decide +kernel)).sn
theorem vi_284_935 : VI 284 935 (kN (i_bin (fun x y => x + y))) := (sp_iadd (kd mk_284 dL_law_935)).sn
theorem vi_284_936 : VI 284 936 (kN (i_ald 40)) := (sp_sald (kd mk_284 dL_law_936)).sn
theorem vi_284_937 : VI 284 937 (kN (i_aload 0 1)) := (sp_aload_n (kd mk_284 dL_law_937)).sn
theorem vi_284_938 : VI 284 938 (kN (i_iload 3 1)) := (sp_iload_n (kd mk_284 dL_law_938)).sn
theorem vi_284_939 : VI 284 939 (kN (i_ic (nI 2) 1)) := (sp_iconst (kd mk_284 dL_law_939) (by decide +kernel)).sn
theorem vi_284_940 : VI 284 940 (kN (i_bin (fun x y => x + y))) := (sp_iadd (kd mk_284 dL_law_940)).sn
theorem vi_284_941 : VI 284 941 (kN (i_ald 40)) := (sp_sald (kd mk_284 dL_law_941)).sn
theorem vi_284_942 : VI 284 942 (kC (i_inV 255 2 0)) := v_V mk_284 mk_255 ck_255 ci_255 dL_law_942 q1137
theorem vi_284_945 : VI 284 945 (kN (i_aload 2 1)) := (sp_aload_n (kd mk_284 dL_law_945)).sn
theorem vi_284_946 : VI 284 946 (kN (i_aload 0 1)) := (sp_aload_n (kd mk_284 dL_law_946)).sn
theorem vi_284_947 : VI 284 947 (kN (i_iload 3 1)) := (sp_iload_n (kd mk_284 dL_law_947)).sn
theorem vi_284_948 : VI 284 948 (kN (i_ic (nI 1) 1)) := (sp_iconst (kd mk_284 dL_law_948) (by decide +kernel)).sn
theorem vi_284_949 : VI 284 949 (kN (i_bin (fun x y => x + y))) := (sp_iadd (kd mk_284 dL_law_949)).sn
theorem vi_284_950 : VI 284 950 (kN (i_ald 40)) := (sp_sald (kd mk_284 dL_law_950)).sn
theorem vi_284_951 : VI 284 951 (kN (i_aload 0 1)) := (sp_aload_n (kd mk_284 dL_law_951)).sn
theorem vi_284_952 : VI 284 952 (kN (i_iload 3 1)) := (sp_iload_n (kd mk_284 dL_law_952)).sn
theorem vi_284_953 : VI 284 953 (kN (i_ic (nI 2) 1)) := (sp_iconst (kd mk_284 dL_law_953) (by decide +kernel)).sn
theorem vi_284_954 : VI 284 954 (kN (i_bin (fun x y => x + y))) := (sp_iadd (kd mk_284 dL_law_954)).sn
theorem vi_284_955 : VI 284 955 (kN (i_ald 40)) := (sp_sald (kd mk_284 dL_law_955)).sn
theorem vi_284_956 : VI 284 956 (kC (i_inV 145 2 3)) := v_V mk_284 mk_145 ck_145 ci_145 dL_law_956 q1824
theorem vi_284_959 : VI 284 959 (kN (i_ceq 1530)) := (sp_ceq (kd mk_284 dL_law_959) (by decide)).sn
theorem vi_284_962 : VI 284 962 (kN (i_ic (nI 0) 1)) := (sp_iconst (kd mk_284 dL_law_962) (by decide +kernel)).sn
theorem vi_284_963 : VI 284 963 (kR i_zret) := sr_z (kd mk_284 dL_law_963) mk_284.2.2.2
theorem vi_284_964 : VI 284 964 (kN (i_aload 1 1)) := (sp_aload_n (kd mk_284 dL_law_964)).sn
theorem vi_284_965 : VI 284 965 (kN (i_aload 0 1)) := (sp_aload_n (kd mk_284 dL_law_965)).sn
theorem vi_284_966 : VI 284 966 (kN (i_iload 3 1)) := (sp_iload_n (kd mk_284 dL_law_966)).sn
theorem vi_284_967 : VI 284 967 (kN (i_ic (nI 1) 1)) := (sp_iconst (kd mk_284 dL_law_967) (by decide +kernel)).sn
theorem vi_284_968 : VI 284 968 (kN (i_bin (fun x y => x + y))) := (sp_iadd (kd mk_284 dL_law_968)).sn
theorem vi_284_969 : VI 284 969 (kN (i_ald 40)) := (sp_sald (kd mk_284 dL_law_969)).sn
theorem vi_284_970 : VI 284 970 (kN (i_aload 0 1)) := (sp_aload_n (kd mk_284 dL_law_970)).sn
theorem vi_284_971 : VI 284 971 (kN (i_iload 3 1)) := (sp_iload_n (kd mk_284 dL_law_971)).sn
theorem vi_284_972 : VI 284 972 (kN (i_ic (nI 2) 1)) := (sp_iconst (kd mk_284 dL_law_972) (by decide +kernel)).sn
theorem vi_284_973 : VI 284 973 (kN (i_bin (fun x y => x + y))) := (sp_iadd (kd mk_284 dL_law_973)).sn
theorem vi_284_974 : VI 284 974 (kN (i_ald 40)) := (sp_sald (kd mk_284 dL_law_974)).sn
theorem vi_284_975 : VI 284 975 (kC (i_inV 256 2 0)) := v_V mk_284 mk_256 ck_256 ci_256 dL_law_975 q1145
theorem vi_284_978 : VI 284 978 (kN (i_aload 2 1)) := (sp_aload_n (kd mk_284 dL_law_978)).sn
theorem vi_284_979 : VI 284 979 (kN (i_aload 0 1)) := (sp_aload_n (kd mk_284 dL_law_979)).sn
theorem vi_284_980 : VI 284 980 (kN (i_iload 3 1)) := (sp_iload_n (kd mk_284 dL_law_980)).sn
theorem vi_284_981 : VI 284 981 (kN (i_ic (nI 1) 1)) := (sp_iconst (kd mk_284 dL_law_981) (by decide +kernel)).sn
theorem vi_284_982 : VI 284 982 (kN (i_bin (fun x y => x + y))) := (sp_iadd (kd mk_284 dL_law_982)).sn
theorem vi_284_983 : VI 284 983 (kN (i_ald 40)) := (sp_sald (kd mk_284 dL_law_983)).sn
theorem vi_284_984 : VI 284 984 (kN (i_aload 0 1)) := (sp_aload_n (kd mk_284 dL_law_984)).sn
theorem vi_284_985 : VI 284 985 (kN (i_iload 3 1)) := (sp_iload_n (kd mk_284 dL_law_985)).sn
theorem vi_284_986 : VI 284 986 (kN (i_ic (nI 2) 1)) := (sp_iconst (kd mk_284 dL_law_986) (by decide +kernel)).sn
theorem vi_284_987 : VI 284 987 (kN (i_bin (fun x y => x + y))) := (sp_iadd (kd mk_284 dL_law_987)).sn
theorem vi_284_988 : VI 284 988 (kN (i_ald 40)) := (sp_sald (kd mk_284 dL_law_988)).sn
theorem vi_284_989 : VI 284 989 (kC (i_inV 146 2 3)) := v_V mk_284 mk_146 ck_146 ci_146 dL_law_989 q1837
theorem vi_284_992 : VI 284 992 (kN (i_ceq 1530)) := (sp_ceq (kd mk_284 dL_law_992) (by decide)).sn
theorem vi_284_995 : VI 284 995 (kN (i_ic (nI 0) 1)) := (sp_iconst (kd mk_284 dL_law_995) (by decide +kernel)).sn
theorem vi_284_996 : VI 284 996 (kR i_zret) := sr_z (kd mk_284 dL_law_996) mk_284.2.2.2
theorem vi_284_997 : VI 284 997 (kN (i_aload 1 1)) := (sp_aload_n (kd mk_284 dL_law_997)).sn
theorem vi_284_998 : VI 284 998 (kN (i_aload 0 1)) := (sp_aload_n (kd mk_284 dL_law_998)).sn
theorem vi_284_999 : VI 284 999 (kN (i_iload 3 1)) := (sp_iload_n (kd mk_284 dL_law_999)).sn
theorem vi_284_1000 : VI 284 1000 (kN (i_ic (nI 1) 1)) := (sp_iconst (kd mk_284 dL_law_1000) (by decide +kernel)).sn
theorem vi_284_1001 : VI 284 1001 (kN (i_bin (fun x y => x + y))) := (sp_iadd (kd mk_284 dL_law_1001)).sn
theorem vi_284_1002 : VI 284 1002 (kN (i_ald 40)) := (sp_sald (kd mk_284 dL_law_1002)).sn
theorem vi_284_1003 : VI 284 1003 (kC (i_inV 258 1 0)) := v_V mk_284 mk_258 ck_258 ci_258 dL_law_1003 q1161
theorem vi_284_1006 : VI 284 1006 (kN (i_aload 2 1)) := (sp_aload_n (kd mk_284 dL_law_1006)).sn
theorem vi_284_1007 : VI 284 1007 (kN (i_aload 0 1)) := (sp_aload_n (kd mk_284 dL_law_1007)).sn
theorem vi_284_1008 : VI 284 1008 (kN (i_iload 3 1)) := (sp_iload_n (kd mk_284 dL_law_1008)).sn
theorem vi_284_1009 : VI 284 1009 (kN (i_ic (nI 1) 1)) := (sp_iconst (kd mk_284 dL_law_1009) (by decide +kernel)).sn
theorem vi_284_1010 : VI 284 1010 (kN (i_bin (fun x y => x + y))) := (sp_iadd (kd mk_284 dL_law_1010)).sn
theorem vi_284_1011 : VI 284 1011 (kN (i_ald 40)) := (sp_sald (kd mk_284 dL_law_1011)).sn
theorem vi_284_1012 : VI 284 1012 (kC (i_inV 149 1 3)) := v_V mk_284 mk_149 ck_149 ci_149 dL_law_1012 q1845
theorem vi_284_1015 : VI 284 1015 (kN (i_ceq 1530)) := (sp_ceq (kd mk_284 dL_law_1015) (by decide)).sn
theorem vi_284_1018 : VI 284 1018 (kN (i_ic (nI 0) 1)) := (sp_iconst (kd mk_284 dL_law_1018) (by decide +kernel)).sn
theorem vi_284_1019 : VI 284 1019 (kR i_zret) := sr_z (kd mk_284 dL_law_1019) mk_284.2.2.2
theorem vi_284_1020 : VI 284 1020 (kN (i_aload 1 1)) := (sp_aload_n (kd mk_284 dL_law_1020)).sn
theorem vi_284_1021 : VI 284 1021 (kN (i_aload 0 1)) := (sp_aload_n (kd mk_284 dL_law_1021)).sn
theorem vi_284_1022 : VI 284 1022 (kN (i_iload 3 1)) := (sp_iload_n (kd mk_284 dL_law_1022)).sn
theorem vi_284_1023 : VI 284 1023 (kN (i_ic (nI 1) 1)) := (sp_iconst (kd mk_284 dL_law_1023) (by decide +kernel)).sn
theorem vi_284_1024 : VI 284 1024 (kN (i_bin (fun x y => x + y))) := (sp_iadd (kd mk_284 dL_law_1024)).sn
theorem vi_284_1025 : VI 284 1025 (kN (i_ald 40)) := (sp_sald (kd mk_284 dL_law_1025)).sn
theorem vi_284_1026 : VI 284 1026 (kN (i_aload 0 1)) := (sp_aload_n (kd mk_284 dL_law_1026)).sn
theorem vi_284_1027 : VI 284 1027 (kN (i_iload 3 1)) := (sp_iload_n (kd mk_284 dL_law_1027)).sn
theorem vi_284_1028 : VI 284 1028 (kN (i_ic (nI 2) 1)) := (sp_iconst (kd mk_284 dL_law_1028) (by decide +kernel)).sn
theorem vi_284_1029 : VI 284 1029 (kN (i_bin (fun x y => x + y))) := (sp_iadd (kd mk_284 dL_law_1029)).sn
theorem vi_284_1030 : VI 284 1030 (kN (i_ald 40)) := (sp_sald (kd mk_284 dL_law_1030)).sn
theorem vi_284_1031 : VI 284 1031 (kN (i_aload 0 1)) := (sp_aload_n (kd mk_284 dL_law_1031)).sn
theorem vi_284_1032 : VI 284 1032 (kN (i_iload 3 1)) := (sp_iload_n (kd mk_284 dL_law_1032)).sn
theorem vi_284_1033 : VI 284 1033 (kN (i_ic (nI 3) 1)) := (sp_iconst (kd mk_284 dL_law_1033) (by decide +kernel)).sn
theorem vi_284_1034 : VI 284 1034 (kN (i_bin (fun x y => x + y))) := (sp_iadd (kd mk_284 dL_law_1034)).sn
theorem vi_284_1035 : VI 284 1035 (kN (i_ald 40)) := (sp_sald (kd mk_284 dL_law_1035)).sn
theorem vi_284_1036 : VI 284 1036 (kC (i_inV 261 3 0)) := v_V mk_284 mk_261 ck_261 ci_261 dL_law_1036 q1188
theorem vi_284_1039 : VI 284 1039 (kN (i_aload 2 1)) := (sp_aload_n (kd mk_284 dL_law_1039)).sn
theorem vi_284_1040 : VI 284 1040 (kN (i_aload 0 1)) := (sp_aload_n (kd mk_284 dL_law_1040)).sn
theorem vi_284_1041 : VI 284 1041 (kN (i_iload 3 1)) := (sp_iload_n (kd mk_284 dL_law_1041)).sn
theorem vi_284_1042 : VI 284 1042 (kN (i_ic (nI 1) 1)) := (sp_iconst (kd mk_284 dL_law_1042) (by decide +kernel)).sn
theorem vi_284_1043 : VI 284 1043 (kN (i_bin (fun x y => x + y))) := (sp_iadd (kd mk_284 dL_law_1043)).sn
theorem vi_284_1044 : VI 284 1044 (kN (i_ald 40)) := (sp_sald (kd mk_284 dL_law_1044)).sn
theorem vi_284_1045 : VI 284 1045 (kN (i_aload 0 1)) := (sp_aload_n (kd mk_284 dL_law_1045)).sn
theorem vi_284_1046 : VI 284 1046 (kN (i_iload 3 1)) := (sp_iload_n (kd mk_284 dL_law_1046)).sn
theorem vi_284_1047 : VI 284 1047 (kN (i_ic (nI 2) 1)) := (sp_iconst (kd mk_284 dL_law_1047) (by decide +kernel)).sn
theorem vi_284_1048 : VI 284 1048 (kN (i_bin (fun x y => x + y))) := (sp_iadd (kd mk_284 dL_law_1048)).sn
theorem vi_284_1049 : VI 284 1049 (kN (i_ald 40)) := (sp_sald (kd mk_284 dL_law_1049)).sn
theorem vi_284_1050 : VI 284 1050 (kN (i_aload 0 1)) := (sp_aload_n (kd mk_284 dL_law_1050)).sn
theorem vi_284_1051 : VI 284 1051 (kN (i_iload 3 1)) := (sp_iload_n (kd mk_284 dL_law_1051)).sn
theorem vi_284_1052 : VI 284 1052 (kN (i_ic (nI 3) 1)) := (sp_iconst (kd mk_284 dL_law_1052) (by decide +kernel)).sn
theorem vi_284_1053 : VI 284 1053 (kN (i_bin (fun x y => x + y))) := (sp_iadd (kd mk_284 dL_law_1053)).sn
theorem vi_284_1054 : VI 284 1054 (kN (i_ald 40)) := (sp_sald (kd mk_284 dL_law_1054)).sn
theorem vi_284_1055 : VI 284 1055 (kC (i_inV 152 3 3)) := v_V mk_284 mk_152 ck_152 ci_152 dL_law_1055 q1865
theorem vi_284_1058 : VI 284 1058 (kN (i_ceq 1530)) := (sp_ceq (kd mk_284 dL_law_1058) (by decide)).sn
theorem vi_284_1061 : VI 284 1061 (kN (i_ic (nI 0) 1)) := (sp_iconst (kd mk_284 dL_law_1061) (by decide +kernel)).sn
theorem vi_284_1062 : VI 284 1062 (kR i_zret) := sr_z (kd mk_284 dL_law_1062) mk_284.2.2.2
theorem vi_284_1063 : VI 284 1063 (kN (i_aload 1 1)) := (sp_aload_n (kd mk_284 dL_law_1063)).sn
theorem vi_284_1064 : VI 284 1064 (kN (i_aload 0 1)) := (sp_aload_n (kd mk_284 dL_law_1064)).sn
theorem vi_284_1065 : VI 284 1065 (kN (i_iload 3 1)) := (sp_iload_n (kd mk_284 dL_law_1065)).sn
theorem vi_284_1066 : VI 284 1066 (kN (i_ic (nI 1) 1)) := (sp_iconst (kd mk_284 dL_law_1066) (by decide +kernel)).sn
theorem vi_284_1067 : VI 284 1067 (kN (i_bin (fun x y => x + y))) := (sp_iadd (kd mk_284 dL_law_1067)).sn
theorem vi_284_1068 : VI 284 1068 (kN (i_ald 40)) := (sp_sald (kd mk_284 dL_law_1068)).sn
theorem vi_284_1069 : VI 284 1069 (kN (i_aload 0 1)) := (sp_aload_n (kd mk_284 dL_law_1069)).sn
theorem vi_284_1070 : VI 284 1070 (kN (i_iload 3 1)) := (sp_iload_n (kd mk_284 dL_law_1070)).sn
theorem vi_284_1071 : VI 284 1071 (kN (i_ic (nI 2) 1)) := (sp_iconst (kd mk_284 dL_law_1071) (by decide +kernel)).sn
theorem vi_284_1072 : VI 284 1072 (kN (i_bin (fun x y => x + y))) := (sp_iadd (kd mk_284 dL_law_1072)).sn
theorem vi_284_1073 : VI 284 1073 (kN (i_ald 40)) := (sp_sald (kd mk_284 dL_law_1073)).sn
theorem vi_284_1074 : VI 284 1074 (kC (i_inV 262 2 0)) := v_V mk_284 mk_262 ck_262 ci_262 dL_law_1074 q1200
theorem vi_284_1077 : VI 284 1077 (kN (i_aload 2 1)) := (sp_aload_n (kd mk_284 dL_law_1077)).sn
theorem vi_284_1078 : VI 284 1078 (kN (i_aload 0 1)) := (sp_aload_n (kd mk_284 dL_law_1078)).sn
theorem vi_284_1079 : VI 284 1079 (kN (i_iload 3 1)) := (sp_iload_n (kd mk_284 dL_law_1079)).sn
theorem vi_284_1080 : VI 284 1080 (kN (i_ic (nI 1) 1)) := (sp_iconst (kd mk_284 dL_law_1080) (by decide +kernel)).sn
theorem vi_284_1081 : VI 284 1081 (kN (i_bin (fun x y => x + y))) := (sp_iadd (kd mk_284 dL_law_1081)).sn
theorem vi_284_1082 : VI 284 1082 (kN (i_ald 40)) := (sp_sald (kd mk_284 dL_law_1082)).sn
theorem vi_284_1083 : VI 284 1083 (kN (i_aload 0 1)) := (sp_aload_n (kd mk_284 dL_law_1083)).sn
theorem vi_284_1084 : VI 284 1084 (kN (i_iload 3 1)) := (sp_iload_n (kd mk_284 dL_law_1084)).sn
theorem vi_284_1085 : VI 284 1085 (kN (i_ic (nI 2) 1)) := (sp_iconst (kd mk_284 dL_law_1085) (by decide +kernel)).sn
theorem vi_284_1086 : VI 284 1086 (kN (i_bin (fun x y => x + y))) := (sp_iadd (kd mk_284 dL_law_1086)).sn
theorem vi_284_1087 : VI 284 1087 (kN (i_ald 40)) := (sp_sald (kd mk_284 dL_law_1087)).sn
theorem vi_284_1088 : VI 284 1088 (kC (i_inV 151 2 3)) := v_V mk_284 mk_151 ck_151 ci_151 dL_law_1088 q1857
theorem vi_284_1091 : VI 284 1091 (kN (i_ceq 1530)) := (sp_ceq (kd mk_284 dL_law_1091) (by decide)).sn
theorem vi_284_1094 : VI 284 1094 (kN (i_ic (nI 0) 1)) := (sp_iconst (kd mk_284 dL_law_1094) (by decide +kernel)).sn
theorem vi_284_1095 : VI 284 1095 (kR i_zret) := sr_z (kd mk_284 dL_law_1095) mk_284.2.2.2
theorem vi_284_1096 : VI 284 1096 (kN (i_aload 1 1)) := (sp_aload_n (kd mk_284 dL_law_1096)).sn
theorem vi_284_1097 : VI 284 1097 (kN (i_aload 0 1)) := (sp_aload_n (kd mk_284 dL_law_1097)).sn
theorem vi_284_1098 : VI 284 1098 (kN (i_iload 3 1)) := (sp_iload_n (kd mk_284 dL_law_1098)).sn
theorem vi_284_1099 : VI 284 1099 (kN (i_ic (nI 1) 1)) := (sp_iconst (kd mk_284 dL_law_1099) (by decide +kernel)).sn
theorem vi_284_1100 : VI 284 1100 (kN (i_bin (fun x y => x + y))) := (sp_iadd (kd mk_284 dL_law_1100)).sn
theorem vi_284_1101 : VI 284 1101 (kN (i_ald 40)) := (sp_sald (kd mk_284 dL_law_1101)).sn
theorem vi_284_1102 : VI 284 1102 (kN (i_aload 0 1)) := (sp_aload_n (kd mk_284 dL_law_1102)).sn
theorem vi_284_1103 : VI 284 1103 (kN (i_iload 3 1)) := (sp_iload_n (kd mk_284 dL_law_1103)).sn
theorem vi_284_1104 : VI 284 1104 (kN (i_ic (nI 2) 1)) := (sp_iconst (kd mk_284 dL_law_1104) (by decide +kernel)).sn
theorem vi_284_1105 : VI 284 1105 (kN (i_bin (fun x y => x + y))) := (sp_iadd (kd mk_284 dL_law_1105)).sn
theorem vi_284_1106 : VI 284 1106 (kN (i_ald 40)) := (sp_sald (kd mk_284 dL_law_1106)).sn
theorem vi_284_1107 : VI 284 1107 (kC (i_inV 268 2 0)) := v_V mk_284 mk_268 ck_268 ci_268 dL_law_1107 q1229
theorem vi_284_1110 : VI 284 1110 (kN (i_aload 2 1)) := (sp_aload_n (kd mk_284 dL_law_1110)).sn
theorem vi_284_1111 : VI 284 1111 (kN (i_aload 0 1)) := (sp_aload_n (kd mk_284 dL_law_1111)).sn
theorem vi_284_1112 : VI 284 1112 (kN (i_iload 3 1)) := (sp_iload_n (kd mk_284 dL_law_1112)).sn
theorem vi_284_1113 : VI 284 1113 (kN (i_ic (nI 1) 1)) := (sp_iconst (kd mk_284 dL_law_1113) (by decide +kernel)).sn
theorem vi_284_1114 : VI 284 1114 (kN (i_bin (fun x y => x + y))) := (sp_iadd (kd mk_284 dL_law_1114)).sn
theorem vi_284_1115 : VI 284 1115 (kN (i_ald 40)) := (sp_sald (kd mk_284 dL_law_1115)).sn
theorem vi_284_1116 : VI 284 1116 (kN (i_aload 0 1)) := (sp_aload_n (kd mk_284 dL_law_1116)).sn
theorem vi_284_1117 : VI 284 1117 (kN (i_iload 3 1)) := (sp_iload_n (kd mk_284 dL_law_1117)).sn
theorem vi_284_1118 : VI 284 1118 (kN (i_ic (nI 2) 1)) := (sp_iconst (kd mk_284 dL_law_1118) (by decide +kernel)).sn
theorem vi_284_1119 : VI 284 1119 (kN (i_bin (fun x y => x + y))) := (sp_iadd (kd mk_284 dL_law_1119)).sn
theorem vi_284_1120 : VI 284 1120 (kN (i_ald 40)) := (sp_sald (kd mk_284 dL_law_1120)).sn
theorem vi_284_1121 : VI 284 1121 (kC (i_inV 154 2 3)) := v_V mk_284 mk_154 ck_154 ci_154 dL_law_1121 q1873
theorem vi_284_1124 : VI 284 1124 (kN (i_ceq 1530)) := (sp_ceq (kd mk_284 dL_law_1124) (by decide)).sn
theorem vi_284_1127 : VI 284 1127 (kN (i_ic (nI 0) 1)) := (sp_iconst (kd mk_284 dL_law_1127) (by decide +kernel)).sn
theorem vi_284_1128 : VI 284 1128 (kR i_zret) := sr_z (kd mk_284 dL_law_1128) mk_284.2.2.2
theorem vi_284_1129 : VI 284 1129 (kN (i_aload 1 1)) := (sp_aload_n (kd mk_284 dL_law_1129)).sn
theorem vi_284_1130 : VI 284 1130 (kN (i_aload 0 1)) := (sp_aload_n (kd mk_284 dL_law_1130)).sn
theorem vi_284_1131 : VI 284 1131 (kN (i_iload 3 1)) := (sp_iload_n (kd mk_284 dL_law_1131)).sn
theorem vi_284_1132 : VI 284 1132 (kN (i_ic (nI 1) 1)) := (sp_iconst (kd mk_284 dL_law_1132) (by decide +kernel)).sn
theorem vi_284_1133 : VI 284 1133 (kN (i_bin (fun x y => x + y))) := (sp_iadd (kd mk_284 dL_law_1133)).sn
theorem vi_284_1134 : VI 284 1134 (kN (i_ald 40)) := (sp_sald (kd mk_284 dL_law_1134)).sn
theorem vi_284_1135 : VI 284 1135 (kN (i_aload 0 1)) := (sp_aload_n (kd mk_284 dL_law_1135)).sn
theorem vi_284_1136 : VI 284 1136 (kN (i_iload 3 1)) := (sp_iload_n (kd mk_284 dL_law_1136)).sn
theorem vi_284_1137 : VI 284 1137 (kN (i_ic (nI 2) 1)) := (sp_iconst (kd mk_284 dL_law_1137) (by decide +kernel)).sn
theorem vi_284_1138 : VI 284 1138 (kN (i_bin (fun x y => x + y))) := (sp_iadd (kd mk_284 dL_law_1138)).sn
theorem vi_284_1139 : VI 284 1139 (kN (i_ald 40)) := (sp_sald (kd mk_284 dL_law_1139)).sn
theorem vi_284_1140 : VI 284 1140 (kN (i_aload 0 1)) := (sp_aload_n (kd mk_284 dL_law_1140)).sn
theorem vi_284_1141 : VI 284 1141 (kN (i_iload 3 1)) := (sp_iload_n (kd mk_284 dL_law_1141)).sn
theorem vi_284_1142 : VI 284 1142 (kN (i_ic (nI 3) 1)) := (sp_iconst (kd mk_284 dL_law_1142) (by decide +kernel)).sn
theorem vi_284_1143 : VI 284 1143 (kN (i_bin (fun x y => x + y))) := (sp_iadd (kd mk_284 dL_law_1143)).sn
theorem vi_284_1144 : VI 284 1144 (kN (i_ald 40)) := (sp_sald (kd mk_284 dL_law_1144)).sn
theorem vi_284_1145 : VI 284 1145 (kC (i_inV 270 3 0)) := v_V mk_284 mk_270 ck_270 ci_270 dL_law_1145 q1233
theorem vi_284_1148 : VI 284 1148 (kN (i_aload 2 1)) := (sp_aload_n (kd mk_284 dL_law_1148)).sn
theorem vi_284_1149 : VI 284 1149 (kN (i_aload 0 1)) := (sp_aload_n (kd mk_284 dL_law_1149)).sn
theorem vi_284_1150 : VI 284 1150 (kN (i_iload 3 1)) := (sp_iload_n (kd mk_284 dL_law_1150)).sn
theorem vi_284_1151 : VI 284 1151 (kN (i_ic (nI 1) 1)) := (sp_iconst (kd mk_284 dL_law_1151) (by decide +kernel)).sn
theorem vi_284_1152 : VI 284 1152 (kN (i_bin (fun x y => x + y))) := (sp_iadd (kd mk_284 dL_law_1152)).sn
theorem vi_284_1153 : VI 284 1153 (kN (i_ald 40)) := (sp_sald (kd mk_284 dL_law_1153)).sn
theorem vi_284_1154 : VI 284 1154 (kN (i_aload 0 1)) := (sp_aload_n (kd mk_284 dL_law_1154)).sn
theorem vi_284_1155 : VI 284 1155 (kN (i_iload 3 1)) := (sp_iload_n (kd mk_284 dL_law_1155)).sn
theorem vi_284_1156 : VI 284 1156 (kN (i_ic (nI 2) 1)) := (sp_iconst (kd mk_284 dL_law_1156) (by decide +kernel)).sn
theorem vi_284_1157 : VI 284 1157 (kN (i_bin (fun x y => x + y))) := (sp_iadd (kd mk_284 dL_law_1157)).sn
theorem vi_284_1158 : VI 284 1158 (kN (i_ald 40)) := (sp_sald (kd mk_284 dL_law_1158)).sn
theorem vi_284_1159 : VI 284 1159 (kN (i_aload 0 1)) := (sp_aload_n (kd mk_284 dL_law_1159)).sn
theorem vi_284_1160 : VI 284 1160 (kN (i_iload 3 1)) := (sp_iload_n (kd mk_284 dL_law_1160)).sn
theorem vi_284_1161 : VI 284 1161 (kN (i_ic (nI 3) 1)) := (sp_iconst (kd mk_284 dL_law_1161) (by decide +kernel)).sn
theorem vi_284_1162 : VI 284 1162 (kN (i_bin (fun x y => x + y))) := (sp_iadd (kd mk_284 dL_law_1162)).sn
theorem vi_284_1163 : VI 284 1163 (kN (i_ald 40)) := (sp_sald (kd mk_284 dL_law_1163)).sn
theorem vi_284_1164 : VI 284 1164 (kC (i_inV 157 3 3)) := v_V mk_284 mk_157 ck_157 ci_157 dL_law_1164 q1877
theorem vi_284_1167 : VI 284 1167 (kN (i_ceq 1530)) := (sp_ceq (kd mk_284 dL_law_1167) (by decide)).sn
theorem vi_284_1170 : VI 284 1170 (kN (i_ic (nI 0) 1)) := (sp_iconst (kd mk_284 dL_law_1170) (by decide +kernel)).sn
theorem vi_284_1171 : VI 284 1171 (kR i_zret) := sr_z (kd mk_284 dL_law_1171) mk_284.2.2.2
theorem vi_284_1172 : VI 284 1172 (kN (i_aload 1 1)) := (sp_aload_n (kd mk_284 dL_law_1172)).sn
theorem vi_284_1173 : VI 284 1173 (kN (i_aload 0 1)) := (sp_aload_n (kd mk_284 dL_law_1173)).sn
theorem vi_284_1174 : VI 284 1174 (kN (i_iload 3 1)) := (sp_iload_n (kd mk_284 dL_law_1174)).sn
theorem vi_284_1175 : VI 284 1175 (kN (i_ic (nI 1) 1)) := (sp_iconst (kd mk_284 dL_law_1175) (by decide +kernel)).sn
theorem vi_284_1176 : VI 284 1176 (kN (i_bin (fun x y => x + y))) := (sp_iadd (kd mk_284 dL_law_1176)).sn
theorem vi_284_1177 : VI 284 1177 (kN (i_ald 40)) := (sp_sald (kd mk_284 dL_law_1177)).sn
theorem vi_284_1178 : VI 284 1178 (kN (i_aload 0 1)) := (sp_aload_n (kd mk_284 dL_law_1178)).sn
theorem vi_284_1179 : VI 284 1179 (kN (i_iload 3 1)) := (sp_iload_n (kd mk_284 dL_law_1179)).sn
theorem vi_284_1180 : VI 284 1180 (kN (i_ic (nI 2) 1)) := (sp_iconst (kd mk_284 dL_law_1180) (by decide +kernel)).sn
theorem vi_284_1181 : VI 284 1181 (kN (i_bin (fun x y => x + y))) := (sp_iadd (kd mk_284 dL_law_1181)).sn
theorem vi_284_1182 : VI 284 1182 (kN (i_ald 40)) := (sp_sald (kd mk_284 dL_law_1182)).sn
theorem vi_284_1183 : VI 284 1183 (kC (i_inV 273 2 0)) := v_V mk_284 mk_273 ck_273 ci_273 dL_law_1183 q1241
theorem vi_284_1186 : VI 284 1186 (kN (i_aload 2 1)) := (sp_aload_n (kd mk_284 dL_law_1186)).sn
theorem vi_284_1187 : VI 284 1187 (kN (i_aload 0 1)) := (sp_aload_n (kd mk_284 dL_law_1187)).sn
theorem vi_284_1188 : VI 284 1188 (kN (i_iload 3 1)) := (sp_iload_n (kd mk_284 dL_law_1188)).sn
theorem vi_284_1189 : VI 284 1189 (kN (i_ic (nI 1) 1)) := (sp_iconst (kd mk_284 dL_law_1189) (by decide +kernel)).sn
theorem vi_284_1190 : VI 284 1190 (kN (i_bin (fun x y => x + y))) := (sp_iadd (kd mk_284 dL_law_1190)).sn
theorem vi_284_1191 : VI 284 1191 (kN (i_ald 40)) := (sp_sald (kd mk_284 dL_law_1191)).sn
theorem vi_284_1192 : VI 284 1192 (kN (i_aload 0 1)) := (sp_aload_n (kd mk_284 dL_law_1192)).sn
theorem vi_284_1193 : VI 284 1193 (kN (i_iload 3 1)) := (sp_iload_n (kd mk_284 dL_law_1193)).sn
theorem vi_284_1194 : VI 284 1194 (kN (i_ic (nI 2) 1)) := (sp_iconst (kd mk_284 dL_law_1194) (by decide +kernel)).sn
theorem vi_284_1195 : VI 284 1195 (kN (i_bin (fun x y => x + y))) := (sp_iadd (kd mk_284 dL_law_1195)).sn
theorem vi_284_1196 : VI 284 1196 (kN (i_ald 40)) := (sp_sald (kd mk_284 dL_law_1196)).sn
theorem vi_284_1197 : VI 284 1197 (kC (i_inV 160 2 3)) := v_V mk_284 mk_160 ck_160 ci_160 dL_law_1197 q1889
theorem vi_284_1200 : VI 284 1200 (kN (i_ceq 1530)) := (sp_ceq (kd mk_284 dL_law_1200) (by decide)).sn
theorem vi_284_1203 : VI 284 1203 (kN (i_ic (nI 0) 1)) := (sp_iconst (kd mk_284 dL_law_1203) (by decide +kernel)).sn
theorem vi_284_1204 : VI 284 1204 (kR i_zret) := sr_z (kd mk_284 dL_law_1204) mk_284.2.2.2
theorem vi_284_1205 : VI 284 1205 (kN (i_aload 1 1)) := (sp_aload_n (kd mk_284 dL_law_1205)).sn
theorem vi_284_1206 : VI 284 1206 (kC (i_inV 274 0 0)) := v_V mk_284 mk_274 ck_274 ci_274 dL_law_1206 q1253
theorem vi_284_1209 : VI 284 1209 (kN (i_aload 2 1)) := (sp_aload_n (kd mk_284 dL_law_1209)).sn
theorem vi_284_1210 : VI 284 1210 (kC (i_inV 162 0 3)) := v_V mk_284 mk_162 ck_162 ci_162 dL_law_1210 q1901
theorem vi_284_1213 : VI 284 1213 (kN (i_ceq 1530)) := (sp_ceq (kd mk_284 dL_law_1213) (by decide)).sn
theorem vi_284_1216 : VI 284 1216 (kN (i_ic (nI 0) 1)) := (sp_iconst (kd mk_284 dL_law_1216) (by decide +kernel)).sn
theorem vi_284_1217 : VI 284 1217 (kR i_zret) := sr_z (kd mk_284 dL_law_1217) mk_284.2.2.2
theorem vi_284_1218 : VI 284 1218 (kN (i_aload 1 1)) := (sp_aload_n (kd mk_284 dL_law_1218)).sn
theorem vi_284_1219 : VI 284 1219 (kN (i_aload 0 1)) := (sp_aload_n (kd mk_284 dL_law_1219)).sn
theorem vi_284_1220 : VI 284 1220 (kN (i_iload 3 1)) := (sp_iload_n (kd mk_284 dL_law_1220)).sn
theorem vi_284_1221 : VI 284 1221 (kN (i_ic (nI 1) 1)) := (sp_iconst (kd mk_284 dL_law_1221) (by decide +kernel)).sn
theorem vi_284_1222 : VI 284 1222 (kN (i_bin (fun x y => x + y))) := (sp_iadd (kd mk_284 dL_law_1222)).sn
theorem vi_284_1223 : VI 284 1223 (kN (i_ald 40)) := (sp_sald (kd mk_284 dL_law_1223)).sn
theorem vi_284_1224 : VI 284 1224 (kC (i_inV 278 1 0)) := v_V mk_284 mk_278 ck_278 ci_278 dL_law_1224 q1258
theorem vi_284_1227 : VI 284 1227 (kN (i_aload 2 1)) := (sp_aload_n (kd mk_284 dL_law_1227)).sn
theorem vi_284_1228 : VI 284 1228 (kN (i_aload 0 1)) := (sp_aload_n (kd mk_284 dL_law_1228)).sn
theorem vi_284_1229 : VI 284 1229 (kN (i_iload 3 1)) := (sp_iload_n (kd mk_284 dL_law_1229)).sn
theorem vi_284_1230 : VI 284 1230 (kN (i_ic (nI 1) 1)) := (sp_iconst (kd mk_284 dL_law_1230) (by decide +kernel)).sn
theorem vi_284_1231 : VI 284 1231 (kN (i_bin (fun x y => x + y))) := (sp_iadd (kd mk_284 dL_law_1231)).sn
theorem vi_284_1232 : VI 284 1232 (kN (i_ald 40)) := (sp_sald (kd mk_284 dL_law_1232)).sn
theorem vi_284_1233 : VI 284 1233 (kC (i_inV 164 1 3)) := v_V mk_284 mk_164 ck_164 ci_164 dL_law_1233 q1910
theorem vi_284_1236 : VI 284 1236 (kN (i_ceq 1530)) := (sp_ceq (kd mk_284 dL_law_1236) (by decide)).sn
theorem vi_284_1239 : VI 284 1239 (kN (i_ic (nI 0) 1)) := (sp_iconst (kd mk_284 dL_law_1239) (by decide +kernel)).sn
theorem vi_284_1240 : VI 284 1240 (kR i_zret) := sr_z (kd mk_284 dL_law_1240) mk_284.2.2.2
theorem vi_284_1241 : VI 284 1241 (kN (i_aload 1 1)) := (sp_aload_n (kd mk_284 dL_law_1241)).sn
theorem vi_284_1242 : VI 284 1242 (kN (i_aload 0 1)) := (sp_aload_n (kd mk_284 dL_law_1242)).sn
theorem vi_284_1243 : VI 284 1243 (kN (i_iload 3 1)) := (sp_iload_n (kd mk_284 dL_law_1243)).sn
theorem vi_284_1244 : VI 284 1244 (kN (i_ic (nI 1) 1)) := (sp_iconst (kd mk_284 dL_law_1244) (by decide +kernel)).sn
theorem vi_284_1245 : VI 284 1245 (kN (i_bin (fun x y => x + y))) := (sp_iadd (kd mk_284 dL_law_1245)).sn
theorem vi_284_1246 : VI 284 1246 (kN (i_ald 40)) := (sp_sald (kd mk_284 dL_law_1246)).sn
theorem vi_284_1247 : VI 284 1247 (kN (i_aload 0 1)) := (sp_aload_n (kd mk_284 dL_law_1247)).sn
theorem vi_284_1248 : VI 284 1248 (kN (i_iload 3 1)) := (sp_iload_n (kd mk_284 dL_law_1248)).sn
theorem vi_284_1249 : VI 284 1249 (kN (i_ic (nI 2) 1)) := (sp_iconst (kd mk_284 dL_law_1249) (by decide +kernel)).sn
theorem vi_284_1250 : VI 284 1250 (kN (i_bin (fun x y => x + y))) := (sp_iadd (kd mk_284 dL_law_1250)).sn
theorem vi_284_1251 : VI 284 1251 (kN (i_ald 40)) := (sp_sald (kd mk_284 dL_law_1251)).sn
theorem vi_284_1252 : VI 284 1252 (kC (i_inV 249 2 0)) := v_V mk_284 mk_249 ck_249 ci_249 dL_law_1252 q1114
theorem vi_284_1255 : VI 284 1255 (kN (i_aload 2 1)) := (sp_aload_n (kd mk_284 dL_law_1255)).sn
theorem vi_284_1256 : VI 284 1256 (kN (i_aload 0 1)) := (sp_aload_n (kd mk_284 dL_law_1256)).sn
theorem vi_284_1257 : VI 284 1257 (kN (i_iload 3 1)) := (sp_iload_n (kd mk_284 dL_law_1257)).sn
theorem vi_284_1258 : VI 284 1258 (kN (i_ic (nI 1) 1)) := (sp_iconst (kd mk_284 dL_law_1258) (by decide +kernel)).sn
theorem vi_284_1259 : VI 284 1259 (kN (i_bin (fun x y => x + y))) := (sp_iadd (kd mk_284 dL_law_1259)).sn
theorem vi_284_1260 : VI 284 1260 (kN (i_ald 40)) := (sp_sald (kd mk_284 dL_law_1260)).sn
theorem vi_284_1261 : VI 284 1261 (kN (i_aload 0 1)) := (sp_aload_n (kd mk_284 dL_law_1261)).sn
theorem vi_284_1262 : VI 284 1262 (kN (i_iload 3 1)) := (sp_iload_n (kd mk_284 dL_law_1262)).sn
theorem vi_284_1263 : VI 284 1263 (kN (i_ic (nI 2) 1)) := (sp_iconst (kd mk_284 dL_law_1263) (by decide +kernel)).sn
theorem vi_284_1264 : VI 284 1264 (kN (i_bin (fun x y => x + y))) := (sp_iadd (kd mk_284 dL_law_1264)).sn
theorem vi_284_1265 : VI 284 1265 (kN (i_ald 40)) := (sp_sald (kd mk_284 dL_law_1265)).sn
theorem vi_284_1266 : VI 284 1266 (kC (i_inV 133 2 3)) := v_V mk_284 mk_133 ck_133 ci_133 dL_law_1266 q1779
theorem vi_284_1269 : VI 284 1269 (kN (i_ceq 1530)) := (sp_ceq (kd mk_284 dL_law_1269) (by decide)).sn
theorem vi_284_1272 : VI 284 1272 (kN (i_ic (nI 0) 1)) := (sp_iconst (kd mk_284 dL_law_1272) (by decide +kernel)).sn
theorem vi_284_1273 : VI 284 1273 (kR i_zret) := sr_z (kd mk_284 dL_law_1273) mk_284.2.2.2
theorem vi_284_1274 : VI 284 1274 (kN (i_aload 1 1)) := (sp_aload_n (kd mk_284 dL_law_1274)).sn
theorem vi_284_1275 : VI 284 1275 (kN (i_aload 0 1)) := (sp_aload_n (kd mk_284 dL_law_1275)).sn
theorem vi_284_1276 : VI 284 1276 (kN (i_iload 3 1)) := (sp_iload_n (kd mk_284 dL_law_1276)).sn
theorem vi_284_1277 : VI 284 1277 (kN (i_ic (nI 1) 1)) := (sp_iconst (kd mk_284 dL_law_1277) (by decide +kernel)).sn
theorem vi_284_1278 : VI 284 1278 (kN (i_bin (fun x y => x + y))) := (sp_iadd (kd mk_284 dL_law_1278)).sn
theorem vi_284_1279 : VI 284 1279 (kN (i_ald 40)) := (sp_sald (kd mk_284 dL_law_1279)).sn
theorem vi_284_1280 : VI 284 1280 (kN (i_aload 0 1)) := (sp_aload_n (kd mk_284 dL_law_1280)).sn
theorem vi_284_1281 : VI 284 1281 (kN (i_iload 3 1)) := (sp_iload_n (kd mk_284 dL_law_1281)).sn
theorem vi_284_1282 : VI 284 1282 (kN (i_ic (nI 2) 1)) := (sp_iconst (kd mk_284 dL_law_1282) (by decide +kernel)).sn
theorem vi_284_1283 : VI 284 1283 (kN (i_bin (fun x y => x + y))) := (sp_iadd (kd mk_284 dL_law_1283)).sn
theorem vi_284_1284 : VI 284 1284 (kN (i_ald 40)) := (sp_sald (kd mk_284 dL_law_1284)).sn
theorem vi_284_1285 : VI 284 1285 (kC (i_inV 250 2 0)) := v_V mk_284 mk_250 ck_250 ci_250 dL_law_1285 q1122
theorem vi_284_1288 : VI 284 1288 (kN (i_aload 2 1)) := (sp_aload_n (kd mk_284 dL_law_1288)).sn
theorem vi_284_1289 : VI 284 1289 (kN (i_aload 0 1)) := (sp_aload_n (kd mk_284 dL_law_1289)).sn
theorem vi_284_1290 : VI 284 1290 (kN (i_iload 3 1)) := (sp_iload_n (kd mk_284 dL_law_1290)).sn
theorem vi_284_1291 : VI 284 1291 (kN (i_ic (nI 1) 1)) := (sp_iconst (kd mk_284 dL_law_1291) (by decide +kernel)).sn
theorem vi_284_1292 : VI 284 1292 (kN (i_bin (fun x y => x + y))) := (sp_iadd (kd mk_284 dL_law_1292)).sn
theorem vi_284_1293 : VI 284 1293 (kN (i_ald 40)) := (sp_sald (kd mk_284 dL_law_1293)).sn
theorem vi_284_1294 : VI 284 1294 (kN (i_aload 0 1)) := (sp_aload_n (kd mk_284 dL_law_1294)).sn
theorem vi_284_1295 : VI 284 1295 (kN (i_iload 3 1)) := (sp_iload_n (kd mk_284 dL_law_1295)).sn
theorem vi_284_1296 : VI 284 1296 (kN (i_ic (nI 2) 1)) := (sp_iconst (kd mk_284 dL_law_1296) (by decide +kernel)).sn
theorem vi_284_1297 : VI 284 1297 (kN (i_bin (fun x y => x + y))) := (sp_iadd (kd mk_284 dL_law_1297)).sn
theorem vi_284_1298 : VI 284 1298 (kN (i_ald 40)) := (sp_sald (kd mk_284 dL_law_1298)).sn
theorem vi_284_1299 : VI 284 1299 (kC (i_inV 134 2 3)) := v_V mk_284 mk_134 ck_134 ci_134 dL_law_1299 q1787
theorem vi_284_1302 : VI 284 1302 (kN (i_ceq 1530)) := (sp_ceq (kd mk_284 dL_law_1302) (by decide)).sn
theorem vi_284_1305 : VI 284 1305 (kN (i_ic (nI 0) 1)) := (sp_iconst (kd mk_284 dL_law_1305) (by decide +kernel)).sn
theorem vi_284_1306 : VI 284 1306 (kR i_zret) := sr_z (kd mk_284 dL_law_1306) mk_284.2.2.2
theorem vi_284_1307 : VI 284 1307 (kN (i_aload 1 1)) := (sp_aload_n (kd mk_284 dL_law_1307)).sn
theorem vi_284_1308 : VI 284 1308 (kN (i_aload 0 1)) := (sp_aload_n (kd mk_284 dL_law_1308)).sn
theorem vi_284_1309 : VI 284 1309 (kN (i_iload 3 1)) := (sp_iload_n (kd mk_284 dL_law_1309)).sn
theorem vi_284_1310 : VI 284 1310 (kN (i_ic (nI 1) 1)) := (sp_iconst (kd mk_284 dL_law_1310) (by decide +kernel)).sn
theorem vi_284_1311 : VI 284 1311 (kN (i_bin (fun x y => x + y))) := (sp_iadd (kd mk_284 dL_law_1311)).sn
theorem vi_284_1312 : VI 284 1312 (kN (i_ald 40)) := (sp_sald (kd mk_284 dL_law_1312)).sn
theorem vi_284_1313 : VI 284 1313 (kC (i_inV 263 1 0)) := v_V mk_284 mk_263 ck_263 ci_263 dL_law_1313 q1204
theorem vi_284_1316 : VI 284 1316 (kN (i_aload 2 1)) := (sp_aload_n (kd mk_284 dL_law_1316)).sn
theorem vi_284_1317 : VI 284 1317 (kN (i_aload 0 1)) := (sp_aload_n (kd mk_284 dL_law_1317)).sn
theorem vi_284_1318 : VI 284 1318 (kN (i_iload 3 1)) := (sp_iload_n (kd mk_284 dL_law_1318)).sn
theorem vi_284_1319 : VI 284 1319 (kN (i_ic (nI 1) 1)) := (sp_iconst (kd mk_284 dL_law_1319) (by decide +kernel)).sn
theorem vi_284_1320 : VI 284 1320 (kN (i_bin (fun x y => x + y))) := (sp_iadd (kd mk_284 dL_law_1320)).sn
theorem vi_284_1321 : VI 284 1321 (kN (i_ald 40)) := (sp_sald (kd mk_284 dL_law_1321)).sn
theorem vi_284_1322 : VI 284 1322 (kC (i_inV 153 1 3)) := v_V mk_284 mk_153 ck_153 ci_153 dL_law_1322 q1869
theorem vi_284_1325 : VI 284 1325 (kN (i_ceq 1530)) := (sp_ceq (kd mk_284 dL_law_1325) (by decide)).sn
theorem vi_284_1328 : VI 284 1328 (kN (i_ic (nI 0) 1)) := (sp_iconst (kd mk_284 dL_law_1328) (by decide +kernel)).sn
theorem vi_284_1329 : VI 284 1329 (kR i_zret) := sr_z (kd mk_284 dL_law_1329) mk_284.2.2.2
theorem vi_284_1330 : VI 284 1330 (kN (i_aload 1 1)) := (sp_aload_n (kd mk_284 dL_law_1330)).sn
theorem vi_284_1331 : VI 284 1331 (kN (i_aload 0 1)) := (sp_aload_n (kd mk_284 dL_law_1331)).sn
theorem vi_284_1332 : VI 284 1332 (kN (i_iload 3 1)) := (sp_iload_n (kd mk_284 dL_law_1332)).sn
theorem vi_284_1333 : VI 284 1333 (kN (i_ic (nI 1) 1)) := (sp_iconst (kd mk_284 dL_law_1333) (by decide +kernel)).sn
theorem vi_284_1334 : VI 284 1334 (kN (i_bin (fun x y => x + y))) := (sp_iadd (kd mk_284 dL_law_1334)).sn
theorem vi_284_1335 : VI 284 1335 (kN (i_ald 40)) := (sp_sald (kd mk_284 dL_law_1335)).sn
theorem vi_284_1336 : VI 284 1336 (kN (i_aload 0 1)) := (sp_aload_n (kd mk_284 dL_law_1336)).sn
theorem vi_284_1337 : VI 284 1337 (kN (i_iload 3 1)) := (sp_iload_n (kd mk_284 dL_law_1337)).sn
theorem vi_284_1338 : VI 284 1338 (kN (i_ic (nI 2) 1)) := (sp_iconst (kd mk_284 dL_law_1338) (by decide +kernel)).sn
theorem vi_284_1339 : VI 284 1339 (kN (i_bin (fun x y => x + y))) := (sp_iadd (kd mk_284 dL_law_1339)).sn
theorem vi_284_1340 : VI 284 1340 (kN (i_ald 40)) := (sp_sald (kd mk_284 dL_law_1340)).sn
theorem vi_284_1341 : VI 284 1341 (kC (i_inV 264 2 0)) := v_V mk_284 mk_264 ck_264 ci_264 dL_law_1341 q1212
theorem vi_284_1344 : VI 284 1344 (kN (i_aload 2 1)) := (sp_aload_n (kd mk_284 dL_law_1344)).sn
theorem vi_284_1345 : VI 284 1345 (kN (i_aload 0 1)) := (sp_aload_n (kd mk_284 dL_law_1345)).sn
theorem vi_284_1346 : VI 284 1346 (kN (i_iload 3 1)) := (sp_iload_n (kd mk_284 dL_law_1346)).sn
theorem vi_284_1347 : VI 284 1347 (kN (i_ic (nI 1) 1)) := (sp_iconst (kd mk_284 dL_law_1347) (by decide +kernel)).sn
theorem vi_284_1348 : VI 284 1348 (kN (i_bin (fun x y => x + y))) := (sp_iadd (kd mk_284 dL_law_1348)).sn
theorem vi_284_1349 : VI 284 1349 (kN (i_ald 40)) := (sp_sald (kd mk_284 dL_law_1349)).sn
theorem vi_284_1350 : VI 284 1350 (kN (i_aload 0 1)) := (sp_aload_n (kd mk_284 dL_law_1350)).sn
theorem vi_284_1351 : VI 284 1351 (kN (i_iload 3 1)) := (sp_iload_n (kd mk_284 dL_law_1351)).sn
theorem vi_284_1352 : VI 284 1352 (kN (i_ic (nI 2) 1)) := (sp_iconst (kd mk_284 dL_law_1352) (by decide +kernel)).sn
theorem vi_284_1353 : VI 284 1353 (kN (i_bin (fun x y => x + y))) := (sp_iadd (kd mk_284 dL_law_1353)).sn
theorem vi_284_1354 : VI 284 1354 (kN (i_ald 40)) := (sp_sald (kd mk_284 dL_law_1354)).sn
theorem vi_284_1355 : VI 284 1355 (kC (i_inV 135 2 3)) := v_V mk_284 mk_135 ck_135 ci_135 dL_law_1355 q1791
theorem vi_284_1358 : VI 284 1358 (kN (i_ceq 1530)) := (sp_ceq (kd mk_284 dL_law_1358) (by decide)).sn
theorem vi_284_1361 : VI 284 1361 (kN (i_ic (nI 0) 1)) := (sp_iconst (kd mk_284 dL_law_1361) (by decide +kernel)).sn
theorem vi_284_1362 : VI 284 1362 (kR i_zret) := sr_z (kd mk_284 dL_law_1362) mk_284.2.2.2
theorem vi_284_1363 : VI 284 1363 (kN (i_aload 1 1)) := (sp_aload_n (kd mk_284 dL_law_1363)).sn
theorem vi_284_1364 : VI 284 1364 (kN (i_aload 0 1)) := (sp_aload_n (kd mk_284 dL_law_1364)).sn
theorem vi_284_1365 : VI 284 1365 (kN (i_iload 3 1)) := (sp_iload_n (kd mk_284 dL_law_1365)).sn
theorem vi_284_1366 : VI 284 1366 (kN (i_ic (nI 1) 1)) := (sp_iconst (kd mk_284 dL_law_1366) (by decide +kernel)).sn
theorem vi_284_1367 : VI 284 1367 (kN (i_bin (fun x y => x + y))) := (sp_iadd (kd mk_284 dL_law_1367)).sn
theorem vi_284_1368 : VI 284 1368 (kN (i_ald 40)) := (sp_sald (kd mk_284 dL_law_1368)).sn
theorem vi_284_1369 : VI 284 1369 (kC (i_inV 265 1 0)) := v_V mk_284 mk_265 ck_265 ci_265 dL_law_1369 q1216
theorem vi_284_1372 : VI 284 1372 (kN (i_aload 2 1)) := (sp_aload_n (kd mk_284 dL_law_1372)).sn
theorem vi_284_1373 : VI 284 1373 (kN (i_aload 0 1)) := (sp_aload_n (kd mk_284 dL_law_1373)).sn
theorem vi_284_1374 : VI 284 1374 (kN (i_iload 3 1)) := (sp_iload_n (kd mk_284 dL_law_1374)).sn
theorem vi_284_1375 : VI 284 1375 (kN (i_ic (nI 1) 1)) := (sp_iconst (kd mk_284 dL_law_1375) (by decide +kernel)).sn
theorem vi_284_1376 : VI 284 1376 (kN (i_bin (fun x y => x + y))) := (sp_iadd (kd mk_284 dL_law_1376)).sn
theorem vi_284_1377 : VI 284 1377 (kN (i_ald 40)) := (sp_sald (kd mk_284 dL_law_1377)).sn
theorem vi_284_1378 : VI 284 1378 (kC (i_inV 136 1 3)) := v_V mk_284 mk_136 ck_136 ci_136 dL_law_1378 q1795
theorem vi_284_1381 : VI 284 1381 (kN (i_ceq 1530)) := (sp_ceq (kd mk_284 dL_law_1381) (by decide)).sn
theorem vi_284_1384 : VI 284 1384 (kN (i_ic (nI 0) 1)) := (sp_iconst (kd mk_284 dL_law_1384) (by decide +kernel)).sn
theorem vi_284_1385 : VI 284 1385 (kR i_zret) := sr_z (kd mk_284 dL_law_1385) mk_284.2.2.2
theorem vi_284_1386 : VI 284 1386 (kN (i_aload 1 1)) := (sp_aload_n (kd mk_284 dL_law_1386)).sn
theorem vi_284_1387 : VI 284 1387 (kN (i_aload 0 1)) := (sp_aload_n (kd mk_284 dL_law_1387)).sn
theorem vi_284_1388 : VI 284 1388 (kN (i_iload 3 1)) := (sp_iload_n (kd mk_284 dL_law_1388)).sn
theorem vi_284_1389 : VI 284 1389 (kN (i_ic (nI 1) 1)) := (sp_iconst (kd mk_284 dL_law_1389) (by decide +kernel)).sn
theorem vi_284_1390 : VI 284 1390 (kN (i_bin (fun x y => x + y))) := (sp_iadd (kd mk_284 dL_law_1390)).sn
theorem vi_284_1391 : VI 284 1391 (kN (i_ald 40)) := (sp_sald (kd mk_284 dL_law_1391)).sn
theorem vi_284_1392 : VI 284 1392 (kC (i_inV 266 1 0)) := v_V mk_284 mk_266 ck_266 ci_266 dL_law_1392 q1221
theorem vi_284_1395 : VI 284 1395 (kN (i_aload 2 1)) := (sp_aload_n (kd mk_284 dL_law_1395)).sn
theorem vi_284_1396 : VI 284 1396 (kN (i_aload 0 1)) := (sp_aload_n (kd mk_284 dL_law_1396)).sn
theorem vi_284_1397 : VI 284 1397 (kN (i_iload 3 1)) := (sp_iload_n (kd mk_284 dL_law_1397)).sn
theorem vi_284_1398 : VI 284 1398 (kN (i_ic (nI 1) 1)) := (sp_iconst (kd mk_284 dL_law_1398) (by decide +kernel)).sn
theorem vi_284_1399 : VI 284 1399 (kN (i_bin (fun x y => x + y))) := (sp_iadd (kd mk_284 dL_law_1399)).sn
theorem vi_284_1400 : VI 284 1400 (kN (i_ald 40)) := (sp_sald (kd mk_284 dL_law_1400)).sn
theorem vi_284_1401 : VI 284 1401 (kC (i_inV 141 1 3)) := v_V mk_284 mk_141 ck_141 ci_141 dL_law_1401 q1816
theorem vi_284_1404 : VI 284 1404 (kN (i_ceq 1530)) := (sp_ceq (kd mk_284 dL_law_1404) (by decide)).sn
theorem vi_284_1407 : VI 284 1407 (kN (i_ic (nI 0) 1)) := (sp_iconst (kd mk_284 dL_law_1407) (by decide +kernel)).sn
theorem vi_284_1408 : VI 284 1408 (kR i_zret) := sr_z (kd mk_284 dL_law_1408) mk_284.2.2.2
theorem vi_284_1409 : VI 284 1409 (kN (i_aload 1 1)) := (sp_aload_n (kd mk_284 dL_law_1409)).sn
theorem vi_284_1410 : VI 284 1410 (kN (i_aload 0 1)) := (sp_aload_n (kd mk_284 dL_law_1410)).sn
theorem vi_284_1411 : VI 284 1411 (kN (i_iload 3 1)) := (sp_iload_n (kd mk_284 dL_law_1411)).sn
theorem vi_284_1412 : VI 284 1412 (kN (i_ic (nI 1) 1)) := (sp_iconst (kd mk_284 dL_law_1412) (by decide +kernel)).sn
theorem vi_284_1413 : VI 284 1413 (kN (i_bin (fun x y => x + y))) := (sp_iadd (kd mk_284 dL_law_1413)).sn
theorem vi_284_1414 : VI 284 1414 (kN (i_ald 40)) := (sp_sald (kd mk_284 dL_law_1414)).sn
theorem vi_284_1415 : VI 284 1415 (kC (i_inV 267 1 0)) := v_V mk_284 mk_267 ck_267 ci_267 dL_law_1415 q1225
theorem vi_284_1418 : VI 284 1418 (kN (i_aload 2 1)) := (sp_aload_n (kd mk_284 dL_law_1418)).sn
theorem vi_284_1419 : VI 284 1419 (kN (i_aload 0 1)) := (sp_aload_n (kd mk_284 dL_law_1419)).sn
theorem vi_284_1420 : VI 284 1420 (kN (i_iload 3 1)) := (sp_iload_n (kd mk_284 dL_law_1420)).sn
theorem vi_284_1421 : VI 284 1421 (kN (i_ic (nI 1) 1)) := (sp_iconst (kd mk_284 dL_law_1421) (by decide +kernel)).sn
theorem vi_284_1422 : VI 284 1422 (kN (i_bin (fun x y => x + y))) := (sp_iadd (kd mk_284 dL_law_1422)).sn
theorem vi_284_1423 : VI 284 1423 (kN (i_ald 40)) := (sp_sald (kd mk_284 dL_law_1423)).sn
theorem vi_284_1424 : VI 284 1424 (kC (i_inV 142 1 3)) := v_V mk_284 mk_142 ck_142 ci_142 dL_law_1424 q1820
theorem vi_284_1427 : VI 284 1427 (kN (i_ceq 1530)) := (sp_ceq (kd mk_284 dL_law_1427) (by decide)).sn
theorem vi_284_1430 : VI 284 1430 (kN (i_ic (nI 0) 1)) := (sp_iconst (kd mk_284 dL_law_1430) (by decide +kernel)).sn
theorem vi_284_1431 : VI 284 1431 (kR i_zret) := sr_z (kd mk_284 dL_law_1431) mk_284.2.2.2
theorem vi_284_1432 : VI 284 1432 (kN (i_aload 1 1)) := (sp_aload_n (kd mk_284 dL_law_1432)).sn
theorem vi_284_1433 : VI 284 1433 (kN (i_aload 0 1)) := (sp_aload_n (kd mk_284 dL_law_1433)).sn
theorem vi_284_1434 : VI 284 1434 (kN (i_iload 3 1)) := (sp_iload_n (kd mk_284 dL_law_1434)).sn
theorem vi_284_1435 : VI 284 1435 (kN (i_ic (nI 1) 1)) := (sp_iconst (kd mk_284 dL_law_1435) (by decide +kernel)).sn
theorem vi_284_1436 : VI 284 1436 (kN (i_bin (fun x y => x + y))) := (sp_iadd (kd mk_284 dL_law_1436)).sn
theorem vi_284_1437 : VI 284 1437 (kN (i_ald 40)) := (sp_sald (kd mk_284 dL_law_1437)).sn
theorem vi_284_1438 : VI 284 1438 (kC (i_inV 251 1 0)) := v_V mk_284 mk_251 ck_251 ci_251 dL_law_1438 q1126
theorem vi_284_1441 : VI 284 1441 (kN (i_aload 2 1)) := (sp_aload_n (kd mk_284 dL_law_1441)).sn
theorem vi_284_1442 : VI 284 1442 (kN (i_aload 0 1)) := (sp_aload_n (kd mk_284 dL_law_1442)).sn
theorem vi_284_1443 : VI 284 1443 (kN (i_iload 3 1)) := (sp_iload_n (kd mk_284 dL_law_1443)).sn
theorem vi_284_1444 : VI 284 1444 (kN (i_ic (nI 1) 1)) := (sp_iconst (kd mk_284 dL_law_1444) (by decide +kernel)).sn
theorem vi_284_1445 : VI 284 1445 (kN (i_bin (fun x y => x + y))) := (sp_iadd (kd mk_284 dL_law_1445)).sn
theorem vi_284_1446 : VI 284 1446 (kN (i_ald 40)) := (sp_sald (kd mk_284 dL_law_1446)).sn
theorem vi_284_1447 : VI 284 1447 (kC (i_inV 137 1 3)) := v_V mk_284 mk_137 ck_137 ci_137 dL_law_1447 q1800
theorem vi_284_1450 : VI 284 1450 (kN (i_ceq 1530)) := (sp_ceq (kd mk_284 dL_law_1450) (by decide)).sn
theorem vi_284_1453 : VI 284 1453 (kN (i_ic (nI 0) 1)) := (sp_iconst (kd mk_284 dL_law_1453) (by decide +kernel)).sn
theorem vi_284_1454 : VI 284 1454 (kR i_zret) := sr_z (kd mk_284 dL_law_1454) mk_284.2.2.2
theorem vi_284_1455 : VI 284 1455 (kN (i_aload 1 1)) := (sp_aload_n (kd mk_284 dL_law_1455)).sn
theorem vi_284_1456 : VI 284 1456 (kC (i_inV 227 0 0)) := v_V mk_284 mk_227 ck_227 ci_227 dL_law_1456 q874
theorem vi_284_1459 : VI 284 1459 (kN (i_aload 2 1)) := (sp_aload_n (kd mk_284 dL_law_1459)).sn
theorem vi_284_1460 : VI 284 1460 (kC (i_inV 109 0 3)) := v_V mk_284 mk_109 ck_109 ci_109 dL_law_1460 q1608
theorem vi_284_1463 : VI 284 1463 (kN (i_ceq 1530)) := (sp_ceq (kd mk_284 dL_law_1463) (by decide)).sn
theorem vi_284_1466 : VI 284 1466 (kN (i_ic (nI 0) 1)) := (sp_iconst (kd mk_284 dL_law_1466) (by decide +kernel)).sn
theorem vi_284_1467 : VI 284 1467 (kR i_zret) := sr_z (kd mk_284 dL_law_1467) mk_284.2.2.2
theorem vi_284_1468 : VI 284 1468 (kN (i_aload 1 1)) := (sp_aload_n (kd mk_284 dL_law_1468)).sn
theorem vi_284_1469 : VI 284 1469 (kN (i_aload 0 1)) := (sp_aload_n (kd mk_284 dL_law_1469)).sn
theorem vi_284_1470 : VI 284 1470 (kN (i_iload 3 1)) := (sp_iload_n (kd mk_284 dL_law_1470)).sn
theorem vi_284_1471 : VI 284 1471 (kN (i_ic (nI 1) 1)) := (sp_iconst (kd mk_284 dL_law_1471) (by decide +kernel)).sn
theorem vi_284_1472 : VI 284 1472 (kN (i_bin (fun x y => x + y))) := (sp_iadd (kd mk_284 dL_law_1472)).sn
theorem vi_284_1473 : VI 284 1473 (kN (i_ald 40)) := (sp_sald (kd mk_284 dL_law_1473)).sn
theorem vi_284_1474 : VI 284 1474 (kN (i_ifeq 1481)) := (sp_ifeq (kd mk_284 dL_law_1474) (by decide)).sn
theorem vi_284_1477 : VI 284 1477 (kN (i_ic (nI 1) 1)) := (sp_iconst (kd mk_284 dL_law_1477) (by decide +kernel)).sn
theorem vi_284_1478 : VI 284 1478 (kN (i_goto 1482)) := (sp_goto (kd mk_284 dL_law_1478) (by decide)).sn
theorem vi_284_1481 : VI 284 1481 (kN (i_ic (nI 0) 1)) := (sp_iconst (kd mk_284 dL_law_1481) (by decide +kernel)).sn
theorem vi_284_1482 : VI 284 1482 (kC (i_inV 281 1 0)) := v_V mk_284 mk_281 ck_281 ci_281 dL_law_1482 q1273
theorem vi_284_1485 : VI 284 1485 (kN (i_aload 2 1)) := (sp_aload_n (kd mk_284 dL_law_1485)).sn
theorem vi_284_1486 : VI 284 1486 (kN (i_aload 0 1)) := (sp_aload_n (kd mk_284 dL_law_1486)).sn
theorem vi_284_1487 : VI 284 1487 (kN (i_iload 3 1)) := (sp_iload_n (kd mk_284 dL_law_1487)).sn
theorem vi_284_1488 : VI 284 1488 (kN (i_ic (nI 1) 1)) := (sp_iconst (kd mk_284 dL_law_1488) (by decide +kernel)).sn
theorem vi_284_1489 : VI 284 1489 (kN (i_bin (fun x y => x + y))) := (sp_iadd (kd mk_284 dL_law_1489)).sn
theorem vi_284_1490 : VI 284 1490 (kN (i_ald 40)) := (sp_sald (kd mk_284 dL_law_1490)).sn
theorem vi_284_1491 : VI 284 1491 (kN (i_ifeq 1498)) := (sp_ifeq (kd mk_284 dL_law_1491) (by decide)).sn
theorem vi_284_1494 : VI 284 1494 (kN (i_ic (nI 1) 1)) := (sp_iconst (kd mk_284 dL_law_1494) (by decide +kernel)).sn
theorem vi_284_1495 : VI 284 1495 (kN (i_goto 1499)) := (sp_goto (kd mk_284 dL_law_1495) (by decide)).sn
theorem vi_284_1498 : VI 284 1498 (kN (i_ic (nI 0) 1)) := (sp_iconst (kd mk_284 dL_law_1498) (by decide +kernel)).sn
theorem vi_284_1499 : VI 284 1499 (kC (i_inV 165 1 3)) := v_V mk_284 mk_165 ck_165 ci_165 dL_law_1499 q1918
theorem vi_284_1502 : VI 284 1502 (kN (i_ceq 1530)) := (sp_ceq (kd mk_284 dL_law_1502) (by decide)).sn
theorem vi_284_1505 : VI 284 1505 (kN (i_ic (nI 0) 1)) := (sp_iconst (kd mk_284 dL_law_1505) (by decide +kernel)).sn
theorem vi_284_1506 : VI 284 1506 (kR i_zret) := sr_z (kd mk_284 dL_law_1506) mk_284.2.2.2
theorem vi_284_1507 : VI 284 1507 (kN (i_aload 1 1)) := (sp_aload_n (kd mk_284 dL_law_1507)).sn
theorem vi_284_1508 : VI 284 1508 (kN (i_aload 0 1)) := (sp_aload_n (kd mk_284 dL_law_1508)).sn
theorem vi_284_1509 : VI 284 1509 (kN (i_iload 3 1)) := (sp_iload_n (kd mk_284 dL_law_1509)).sn
theorem vi_284_1510 : VI 284 1510 (kN (i_ic (nI 1) 1)) := (sp_iconst (kd mk_284 dL_law_1510) (by decide +kernel)).sn
theorem vi_284_1511 : VI 284 1511 (kN (i_bin (fun x y => x + y))) := (sp_iadd (kd mk_284 dL_law_1511)).sn
theorem vi_284_1512 : VI 284 1512 (kN (i_ald 40)) := (sp_sald (kd mk_284 dL_law_1512)).sn
theorem vi_284_1513 : VI 284 1513 (kC (i_inV 282 1 0)) := v_V mk_284 mk_282 ck_282 ci_282 dL_law_1513 q1286
theorem vi_284_1516 : VI 284 1516 (kN (i_aload 2 1)) := (sp_aload_n (kd mk_284 dL_law_1516)).sn
theorem vi_284_1517 : VI 284 1517 (kN (i_aload 0 1)) := (sp_aload_n (kd mk_284 dL_law_1517)).sn
theorem vi_284_1518 : VI 284 1518 (kN (i_iload 3 1)) := (sp_iload_n (kd mk_284 dL_law_1518)).sn
theorem vi_284_1519 : VI 284 1519 (kN (i_ic (nI 1) 1)) := (sp_iconst (kd mk_284 dL_law_1519) (by decide +kernel)).sn
theorem vi_284_1520 : VI 284 1520 (kN (i_bin (fun x y => x + y))) := (sp_iadd (kd mk_284 dL_law_1520)).sn
theorem vi_284_1521 : VI 284 1521 (kN (i_ald 40)) := (sp_sald (kd mk_284 dL_law_1521)).sn
theorem vi_284_1522 : VI 284 1522 (kC (i_inV 166 1 3)) := v_V mk_284 mk_166 ck_166 ci_166 dL_law_1522 q1922
theorem vi_284_1525 : VI 284 1525 (kN (i_ceq 1530)) := (sp_ceq (kd mk_284 dL_law_1525) (by decide)).sn
theorem vi_284_1528 : VI 284 1528 (kN (i_ic (nI 0) 1)) := (sp_iconst (kd mk_284 dL_law_1528) (by decide +kernel)).sn
theorem vi_284_1529 : VI 284 1529 (kR i_zret) := sr_z (kd mk_284 dL_law_1529) mk_284.2.2.2
theorem vi_284_1530 : VI 284 1530 (kN (i_iinc 3 6)) := (sp_iinc (kd mk_284 dL_law_1530) (kl mk_284 (by decide))).sn
theorem vi_284_1533 : VI 284 1533 (kN (i_goto 18)) := (sp_goto (kd mk_284 dL_law_1533) (by decide)).sn
theorem vi_284_1536 : VI 284 1536 (kN (i_ic (nI 1) 1)) := (sp_iconst (kd mk_284 dL_law_1536) (by decide +kernel)).sn
theorem vi_284_1537 : VI 284 1537 (kR i_zret) := sr_z (kd mk_284 dL_law_1537) mk_284.2.2.2
theorem va_284 : ∀ z ∈ cl_284, VI 284 z.1 z.2 := (fa_c vi_284_0 (fa_c vi_284_3 (fa_c vi_284_4 (fa_c vi_284_7 (fa_c vi_284_8 (fa_c vi_284_11 (fa_c vi_284_12 (fa_c vi_284_15 (fa_c vi_284_16 (fa_c vi_284_17 (fa_c vi_284_18 (fa_c vi_284_19 (fa_c vi_284_20 (fa_c vi_284_21 (fa_c vi_284_23 (fa_c vi_284_24 (fa_c vi_284_27 (fa_c vi_284_28 (fa_c vi_284_29 (fa_c vi_284_30 (fa_c vi_284_32 (fa_c vi_284_33 (fa_c vi_284_216 (fa_c vi_284_217 (fa_c vi_284_218 (fa_c vi_284_219 (fa_c vi_284_220 (fa_c vi_284_221 (fa_c vi_284_222 (fa_c vi_284_225 (fa_c vi_284_226 (fa_c vi_284_227 (fa_c vi_284_228 (fa_c vi_284_229 (fa_c vi_284_230 (fa_c vi_284_231 (fa_c vi_284_234 (fa_c vi_284_237 (fa_c vi_284_238 (fa_c vi_284_239 (fa_c vi_284_240 (fa_c vi_284_241 (fa_c vi_284_242 (fa_c vi_284_243 (fa_c vi_284_244 (fa_c vi_284_245 (fa_c vi_284_246 (fa_c vi_284_247 (fa_c vi_284_248 (fa_c vi_284_249 (fa_c vi_284_250 (fa_c vi_284_251 (fa_c vi_284_252 (fa_c vi_284_253 (fa_c vi_284_254 (fa_c vi_284_255 (fa_c vi_284_258 (fa_c vi_284_259 (fa_c vi_284_260 (fa_c vi_284_261 (fa_c vi_284_262 (fa_c vi_284_263 (fa_c vi_284_264 (fa_c vi_284_265 (fa_c vi_284_266 (fa_c vi_284_267 (fa_c vi_284_268 (fa_c vi_284_269 (fa_c vi_284_270 (fa_c vi_284_271 (fa_c vi_284_272 (fa_c vi_284_273 (fa_c vi_284_274 (fa_c vi_284_277 (fa_c vi_284_280 (fa_c vi_284_281 (fa_c vi_284_282 (fa_c vi_284_283 (fa_c vi_284_284 (fa_c vi_284_285 (fa_c vi_284_286 (fa_c vi_284_287 (fa_c vi_284_288 (fa_c vi_284_289 (fa_c vi_284_290 (fa_c vi_284_291 (fa_c vi_284_292 (fa_c vi_284_293 (fa_c vi_284_294 (fa_c vi_284_295 (fa_c vi_284_296 (fa_c vi_284_297 (fa_c vi_284_298 (fa_c vi_284_301 (fa_c vi_284_302 (fa_c vi_284_303 (fa_c vi_284_304 (fa_c vi_284_305 (fa_c vi_284_306 (fa_c vi_284_307 (fa_c vi_284_308 (fa_c vi_284_309 (fa_c vi_284_310 (fa_c vi_284_311 (fa_c vi_284_312 (fa_c vi_284_313 (fa_c vi_284_314 (fa_c vi_284_315 (fa_c vi_284_316 (fa_c vi_284_317 (fa_c vi_284_320 (fa_c vi_284_323 (fa_c vi_284_324 (fa_c vi_284_325 (fa_c vi_284_326 (fa_c vi_284_327 (fa_c vi_284_328 (fa_c vi_284_329 (fa_c vi_284_330 (fa_c vi_284_331 (fa_c vi_284_332 (fa_c vi_284_333 (fa_c vi_284_334 (fa_c vi_284_335 (fa_c vi_284_336 (fa_c vi_284_337 (fa_c vi_284_338 (fa_c vi_284_339 (fa_c vi_284_340 (fa_c vi_284_341 (fa_c vi_284_344 (fa_c vi_284_345 (fa_c vi_284_346 (fa_c vi_284_347 (fa_c vi_284_348 (fa_c vi_284_349 (fa_c vi_284_350 (fa_c vi_284_351 (fa_c vi_284_352 (fa_c vi_284_353 (fa_c vi_284_354 (fa_c vi_284_355 (fa_c vi_284_356 (fa_c vi_284_357 (fa_c vi_284_358 (fa_c vi_284_359 (fa_c vi_284_360 (fa_c vi_284_363 (fa_c vi_284_366 (fa_c vi_284_367 (fa_c vi_284_368 (fa_c vi_284_369 (fa_c vi_284_370 (fa_c vi_284_371 (fa_c vi_284_372 (fa_c vi_284_373 (fa_c vi_284_374 (fa_c vi_284_377 (fa_c vi_284_378 (fa_c vi_284_379 (fa_c vi_284_380 (fa_c vi_284_381 (fa_c vi_284_382 (fa_c vi_284_383 (fa_c vi_284_386 (fa_c vi_284_389 (fa_c vi_284_390 (fa_c vi_284_391 (fa_c vi_284_392 (fa_c vi_284_393 (fa_c vi_284_394 (fa_c vi_284_395 (fa_c vi_284_396 (fa_c vi_284_397 (fa_c vi_284_398 (fa_c vi_284_399 (fa_c vi_284_400 (fa_c vi_284_401 (fa_c vi_284_402 (fa_c vi_284_405 (fa_c vi_284_406 (fa_c vi_284_407 (fa_c vi_284_408 (fa_c vi_284_409 (fa_c vi_284_410 (fa_c vi_284_411 (fa_c vi_284_412 (fa_c vi_284_413 (fa_c vi_284_414 (fa_c vi_284_415 (fa_c vi_284_416 (fa_c vi_284_419 (fa_c vi_284_422 (fa_c vi_284_423 (fa_c vi_284_424 (fa_c vi_284_425 (fa_c vi_284_426 (fa_c vi_284_427 (fa_c vi_284_428 (fa_c vi_284_429 (fa_c vi_284_430 (fa_c vi_284_431 (fa_c vi_284_432 (fa_c vi_284_433 (fa_c vi_284_434 (fa_c vi_284_435 (fa_c vi_284_438 (fa_c vi_284_439 (fa_c vi_284_442 (fa_c vi_284_443 (fa_c vi_284_446 (fa_c vi_284_447 (fa_c vi_284_448 (fa_c vi_284_449 (fa_c vi_284_450 (fa_c vi_284_451 (fa_c vi_284_452 (fa_c vi_284_453 (fa_c vi_284_454 (fa_c vi_284_455 (fa_c vi_284_456 (fa_c vi_284_457 (fa_c vi_284_460 (fa_c vi_284_461 (fa_c vi_284_464 (fa_c vi_284_465 (fa_c vi_284_468 (fa_c vi_284_471 (fa_c vi_284_472 (fa_c vi_284_473 (fa_c vi_284_474 (fa_c vi_284_475 (fa_c vi_284_476 (fa_c vi_284_477 (fa_c vi_284_478 (fa_c vi_284_479 (fa_c vi_284_480 (fa_c vi_284_481 (fa_c vi_284_482 (fa_c vi_284_483 (fa_c vi_284_484 (fa_c vi_284_487 (fa_c vi_284_488 (fa_c vi_284_491 (fa_c vi_284_492 (fa_c vi_284_495 (fa_c vi_284_496 (fa_c vi_284_497 (fa_c vi_284_498 (fa_c vi_284_499 (fa_c vi_284_500 (fa_c vi_284_501 (fa_c vi_284_502 (fa_c vi_284_503 (fa_c vi_284_504 (fa_c vi_284_505 (fa_c vi_284_506 (fa_c vi_284_509 (fa_c vi_284_510 (fa_c vi_284_513 (fa_c vi_284_514 (fa_c vi_284_517 (fa_c vi_284_520 (fa_c vi_284_521 (fa_c vi_284_522 (fa_c vi_284_523 (fa_c vi_284_524 (fa_c vi_284_525 (fa_c vi_284_526 (fa_c vi_284_527 (fa_c vi_284_528 (fa_c vi_284_531 (fa_c vi_284_532 (fa_c vi_284_533 (fa_c vi_284_534 (fa_c vi_284_535 (fa_c vi_284_536 (fa_c vi_284_537 (fa_c vi_284_540 (fa_c vi_284_543 (fa_c vi_284_544 (fa_c vi_284_545 (fa_c vi_284_546 (fa_c vi_284_547 (fa_c vi_284_548 (fa_c vi_284_549 (fa_c vi_284_550 (fa_c vi_284_551 (fa_c vi_284_552 (fa_c vi_284_553 (fa_c vi_284_554 (fa_c vi_284_555 (fa_c vi_284_556 (fa_c vi_284_557 (fa_c vi_284_558 (fa_c vi_284_559 (fa_c vi_284_560 (fa_c vi_284_561 (fa_c vi_284_562 (fa_c vi_284_563 (fa_c vi_284_564 (fa_c vi_284_565 (fa_c vi_284_566 (fa_c vi_284_567 (fa_c vi_284_568 (fa_c vi_284_569 (fa_c vi_284_570 (fa_c vi_284_571 (fa_c vi_284_574 (fa_c vi_284_575 (fa_c vi_284_576 (fa_c vi_284_577 (fa_c vi_284_578 (fa_c vi_284_579 (fa_c vi_284_580 (fa_c vi_284_581 (fa_c vi_284_582 (fa_c vi_284_583 (fa_c vi_284_584 (fa_c vi_284_585 (fa_c vi_284_586 (fa_c vi_284_587 (fa_c vi_284_588 (fa_c vi_284_589 (fa_c vi_284_590 (fa_c vi_284_591 (fa_c vi_284_592 (fa_c vi_284_593 (fa_c vi_284_594 (fa_c vi_284_595 (fa_c vi_284_596 (fa_c vi_284_597 (fa_c vi_284_598 (fa_c vi_284_599 (fa_c vi_284_600 (fa_c vi_284_603 (fa_c vi_284_606 (fa_c vi_284_607 (fa_c vi_284_608 (fa_c vi_284_609 (fa_c vi_284_610 (fa_c vi_284_611 (fa_c vi_284_612 (fa_c vi_284_613 (fa_c vi_284_614 (fa_c vi_284_617 (fa_c vi_284_618 (fa_c vi_284_619 (fa_c vi_284_620 (fa_c vi_284_621 (fa_c vi_284_622 (fa_c vi_284_623 (fa_c vi_284_626 (fa_c vi_284_629 (fa_c vi_284_630 (fa_c vi_284_631 (fa_c vi_284_632 (fa_c vi_284_633 (fa_c vi_284_634 (fa_c vi_284_635 (fa_c vi_284_636 (fa_c vi_284_637 (fa_c vi_284_640 (fa_c vi_284_641 (fa_c vi_284_642 (fa_c vi_284_643 (fa_c vi_284_644 (fa_c vi_284_645 (fa_c vi_284_646 (fa_c vi_284_649 (fa_c vi_284_652 (fa_c vi_284_653 (fa_c vi_284_654 (fa_c vi_284_655 (fa_c vi_284_656 (fa_c vi_284_657 (fa_c vi_284_658 (fa_c vi_284_659 (fa_c vi_284_660 (fa_c vi_284_663 (fa_c vi_284_664 (fa_c vi_284_665 (fa_c vi_284_666 (fa_c vi_284_667 (fa_c vi_284_668 (fa_c vi_284_669 (fa_c vi_284_672 (fa_c vi_284_675 (fa_c vi_284_676 (fa_c vi_284_677 (fa_c vi_284_678 (fa_c vi_284_679 (fa_c vi_284_680 (fa_c vi_284_681 (fa_c vi_284_682 (fa_c vi_284_683 (fa_c vi_284_684 (fa_c vi_284_685 (fa_c vi_284_686 (fa_c vi_284_687 (fa_c vi_284_688 (fa_c vi_284_691 (fa_c vi_284_692 (fa_c vi_284_693 (fa_c vi_284_694 (fa_c vi_284_695 (fa_c vi_284_696 (fa_c vi_284_697 (fa_c vi_284_698 (fa_c vi_284_699 (fa_c vi_284_700 (fa_c vi_284_701 (fa_c vi_284_702 (fa_c vi_284_705 (fa_c vi_284_708 (fa_c vi_284_709 (fa_c vi_284_710 (fa_c vi_284_711 (fa_c vi_284_712 (fa_c vi_284_713 (fa_c vi_284_714 (fa_c vi_284_715 (fa_c vi_284_716 (fa_c vi_284_717 (fa_c vi_284_718 (fa_c vi_284_719 (fa_c vi_284_720 (fa_c vi_284_721 (fa_c vi_284_724 (fa_c vi_284_725 (fa_c vi_284_726 (fa_c vi_284_727 (fa_c vi_284_728 (fa_c vi_284_729 (fa_c vi_284_730 (fa_c vi_284_731 (fa_c vi_284_732 (fa_c vi_284_733 (fa_c vi_284_734 (fa_c vi_284_735 (fa_c vi_284_738 (fa_c vi_284_741 (fa_c vi_284_742 (fa_c vi_284_743 (fa_c vi_284_744 (fa_c vi_284_745 (fa_c vi_284_746 (fa_c vi_284_747 (fa_c vi_284_748 (fa_c vi_284_749 (fa_c vi_284_752 (fa_c vi_284_753 (fa_c vi_284_754 (fa_c vi_284_755 (fa_c vi_284_756 (fa_c vi_284_757 (fa_c vi_284_758 (fa_c vi_284_761 (fa_c vi_284_764 (fa_c vi_284_765 (fa_c vi_284_766 (fa_c vi_284_767 (fa_c vi_284_768 (fa_c vi_284_769 (fa_c vi_284_770 (fa_c vi_284_771 (fa_c vi_284_772 (fa_c vi_284_773 (fa_c vi_284_774 (fa_c vi_284_775 (fa_c vi_284_776 (fa_c vi_284_777 (fa_c vi_284_780 (fa_c vi_284_781 (fa_c vi_284_782 (fa_c vi_284_783 (fa_c vi_284_784 (fa_c vi_284_785 (fa_c vi_284_786 (fa_c vi_284_787 (fa_c vi_284_788 (fa_c vi_284_789 (fa_c vi_284_790 (fa_c vi_284_791 (fa_c vi_284_794 (fa_c vi_284_797 (fa_c vi_284_798 (fa_c vi_284_799 (fa_c vi_284_800 (fa_c vi_284_801 (fa_c vi_284_802 (fa_c vi_284_803 (fa_c vi_284_804 (fa_c vi_284_805 (fa_c vi_284_808 (fa_c vi_284_809 (fa_c vi_284_810 (fa_c vi_284_811 (fa_c vi_284_812 (fa_c vi_284_813 (fa_c vi_284_814 (fa_c vi_284_817 (fa_c vi_284_820 (fa_c vi_284_821 (fa_c vi_284_822 (fa_c vi_284_823 (fa_c vi_284_824 (fa_c vi_284_825 (fa_c vi_284_826 (fa_c vi_284_827 (fa_c vi_284_828 (fa_c vi_284_829 (fa_c vi_284_830 (fa_c vi_284_831 (fa_c vi_284_832 (fa_c vi_284_833 (fa_c vi_284_836 (fa_c vi_284_837 (fa_c vi_284_838 (fa_c vi_284_839 (fa_c vi_284_840 (fa_c vi_284_841 (fa_c vi_284_842 (fa_c vi_284_843 (fa_c vi_284_844 (fa_c vi_284_845 (fa_c vi_284_846 (fa_c vi_284_847 (fa_c vi_284_850 (fa_c vi_284_853 (fa_c vi_284_854 (fa_c vi_284_855 (fa_c vi_284_856 (fa_c vi_284_857 (fa_c vi_284_858 (fa_c vi_284_859 (fa_c vi_284_860 (fa_c vi_284_861 (fa_c vi_284_862 (fa_c vi_284_863 (fa_c vi_284_864 (fa_c vi_284_865 (fa_c vi_284_866 (fa_c vi_284_867 (fa_c vi_284_868 (fa_c vi_284_869 (fa_c vi_284_870 (fa_c vi_284_871 (fa_c vi_284_874 (fa_c vi_284_875 (fa_c vi_284_876 (fa_c vi_284_877 (fa_c vi_284_878 (fa_c vi_284_879 (fa_c vi_284_880 (fa_c vi_284_881 (fa_c vi_284_882 (fa_c vi_284_883 (fa_c vi_284_884 (fa_c vi_284_885 (fa_c vi_284_886 (fa_c vi_284_887 (fa_c vi_284_888 (fa_c vi_284_889 (fa_c vi_284_890 (fa_c vi_284_893 (fa_c vi_284_896 (fa_c vi_284_897 (fa_c vi_284_898 (fa_c vi_284_899 (fa_c vi_284_900 (fa_c vi_284_901 (fa_c vi_284_902 (fa_c vi_284_903 (fa_c vi_284_904 (fa_c vi_284_905 (fa_c vi_284_906 (fa_c vi_284_907 (fa_c vi_284_908 (fa_c vi_284_909 (fa_c vi_284_912 (fa_c vi_284_913 (fa_c vi_284_914 (fa_c vi_284_915 (fa_c vi_284_916 (fa_c vi_284_917 (fa_c vi_284_918 (fa_c vi_284_919 (fa_c vi_284_920 (fa_c vi_284_921 (fa_c vi_284_922 (fa_c vi_284_923 (fa_c vi_284_926 (fa_c vi_284_929 (fa_c vi_284_930 (fa_c vi_284_931 (fa_c vi_284_932 (fa_c vi_284_933 (fa_c vi_284_934 (fa_c vi_284_935 (fa_c vi_284_936 (fa_c vi_284_937 (fa_c vi_284_938 (fa_c vi_284_939 (fa_c vi_284_940 (fa_c vi_284_941 (fa_c vi_284_942 (fa_c vi_284_945 (fa_c vi_284_946 (fa_c vi_284_947 (fa_c vi_284_948 (fa_c vi_284_949 (fa_c vi_284_950 (fa_c vi_284_951 (fa_c vi_284_952 (fa_c vi_284_953 (fa_c vi_284_954 (fa_c vi_284_955 (fa_c vi_284_956 (fa_c vi_284_959 (fa_c vi_284_962 (fa_c vi_284_963 (fa_c vi_284_964 (fa_c vi_284_965 (fa_c vi_284_966 (fa_c vi_284_967 (fa_c vi_284_968 (fa_c vi_284_969 (fa_c vi_284_970 (fa_c vi_284_971 (fa_c vi_284_972 (fa_c vi_284_973 (fa_c vi_284_974 (fa_c vi_284_975 (fa_c vi_284_978 (fa_c vi_284_979 (fa_c vi_284_980 (fa_c vi_284_981 (fa_c vi_284_982 (fa_c vi_284_983 (fa_c vi_284_984 (fa_c vi_284_985 (fa_c vi_284_986 (fa_c vi_284_987 (fa_c vi_284_988 (fa_c vi_284_989 (fa_c vi_284_992 (fa_c vi_284_995 (fa_c vi_284_996 (fa_c vi_284_997 (fa_c vi_284_998 (fa_c vi_284_999 (fa_c vi_284_1000 (fa_c vi_284_1001 (fa_c vi_284_1002 (fa_c vi_284_1003 (fa_c vi_284_1006 (fa_c vi_284_1007 (fa_c vi_284_1008 (fa_c vi_284_1009 (fa_c vi_284_1010 (fa_c vi_284_1011 (fa_c vi_284_1012 (fa_c vi_284_1015 (fa_c vi_284_1018 (fa_c vi_284_1019 (fa_c vi_284_1020 (fa_c vi_284_1021 (fa_c vi_284_1022 (fa_c vi_284_1023 (fa_c vi_284_1024 (fa_c vi_284_1025 (fa_c vi_284_1026 (fa_c vi_284_1027 (fa_c vi_284_1028 (fa_c vi_284_1029 (fa_c vi_284_1030 (fa_c vi_284_1031 (fa_c vi_284_1032 (fa_c vi_284_1033 (fa_c vi_284_1034 (fa_c vi_284_1035 (fa_c vi_284_1036 (fa_c vi_284_1039 (fa_c vi_284_1040 (fa_c vi_284_1041 (fa_c vi_284_1042 (fa_c vi_284_1043 (fa_c vi_284_1044 (fa_c vi_284_1045 (fa_c vi_284_1046 (fa_c vi_284_1047 (fa_c vi_284_1048 (fa_c vi_284_1049 (fa_c vi_284_1050 (fa_c vi_284_1051 (fa_c vi_284_1052 (fa_c vi_284_1053 (fa_c vi_284_1054 (fa_c vi_284_1055 (fa_c vi_284_1058 (fa_c vi_284_1061 (fa_c vi_284_1062 (fa_c vi_284_1063 (fa_c vi_284_1064 (fa_c vi_284_1065 (fa_c vi_284_1066 (fa_c vi_284_1067 (fa_c vi_284_1068 (fa_c vi_284_1069 (fa_c vi_284_1070 (fa_c vi_284_1071 (fa_c vi_284_1072 (fa_c vi_284_1073 (fa_c vi_284_1074 (fa_c vi_284_1077 (fa_c vi_284_1078 (fa_c vi_284_1079 (fa_c vi_284_1080 (fa_c vi_284_1081 (fa_c vi_284_1082 (fa_c vi_284_1083 (fa_c vi_284_1084 (fa_c vi_284_1085 (fa_c vi_284_1086 (fa_c vi_284_1087 (fa_c vi_284_1088 (fa_c vi_284_1091 (fa_c vi_284_1094 (fa_c vi_284_1095 (fa_c vi_284_1096 (fa_c vi_284_1097 (fa_c vi_284_1098 (fa_c vi_284_1099 (fa_c vi_284_1100 (fa_c vi_284_1101 (fa_c vi_284_1102 (fa_c vi_284_1103 (fa_c vi_284_1104 (fa_c vi_284_1105 (fa_c vi_284_1106 (fa_c vi_284_1107 (fa_c vi_284_1110 (fa_c vi_284_1111 (fa_c vi_284_1112 (fa_c vi_284_1113 (fa_c vi_284_1114 (fa_c vi_284_1115 (fa_c vi_284_1116 (fa_c vi_284_1117 (fa_c vi_284_1118 (fa_c vi_284_1119 (fa_c vi_284_1120 (fa_c vi_284_1121 (fa_c vi_284_1124 (fa_c vi_284_1127 (fa_c vi_284_1128 (fa_c vi_284_1129 (fa_c vi_284_1130 (fa_c vi_284_1131 (fa_c vi_284_1132 (fa_c vi_284_1133 (fa_c vi_284_1134 (fa_c vi_284_1135 (fa_c vi_284_1136 (fa_c vi_284_1137 (fa_c vi_284_1138 (fa_c vi_284_1139 (fa_c vi_284_1140 (fa_c vi_284_1141 (fa_c vi_284_1142 (fa_c vi_284_1143 (fa_c vi_284_1144 (fa_c vi_284_1145 (fa_c vi_284_1148 (fa_c vi_284_1149 (fa_c vi_284_1150 (fa_c vi_284_1151 (fa_c vi_284_1152 (fa_c vi_284_1153 (fa_c vi_284_1154 (fa_c vi_284_1155 (fa_c vi_284_1156 (fa_c vi_284_1157 (fa_c vi_284_1158 (fa_c vi_284_1159 (fa_c vi_284_1160 (fa_c vi_284_1161 (fa_c vi_284_1162 (fa_c vi_284_1163 (fa_c vi_284_1164 (fa_c vi_284_1167 (fa_c vi_284_1170 (fa_c vi_284_1171 (fa_c vi_284_1172 (fa_c vi_284_1173 (fa_c vi_284_1174 (fa_c vi_284_1175 (fa_c vi_284_1176 (fa_c vi_284_1177 (fa_c vi_284_1178 (fa_c vi_284_1179 (fa_c vi_284_1180 (fa_c vi_284_1181 (fa_c vi_284_1182 (fa_c vi_284_1183 (fa_c vi_284_1186 (fa_c vi_284_1187 (fa_c vi_284_1188 (fa_c vi_284_1189 (fa_c vi_284_1190 (fa_c vi_284_1191 (fa_c vi_284_1192 (fa_c vi_284_1193 (fa_c vi_284_1194 (fa_c vi_284_1195 (fa_c vi_284_1196 (fa_c vi_284_1197 (fa_c vi_284_1200 (fa_c vi_284_1203 (fa_c vi_284_1204 (fa_c vi_284_1205 (fa_c vi_284_1206 (fa_c vi_284_1209 (fa_c vi_284_1210 (fa_c vi_284_1213 (fa_c vi_284_1216 (fa_c vi_284_1217 (fa_c vi_284_1218 (fa_c vi_284_1219 (fa_c vi_284_1220 (fa_c vi_284_1221 (fa_c vi_284_1222 (fa_c vi_284_1223 (fa_c vi_284_1224 (fa_c vi_284_1227 (fa_c vi_284_1228 (fa_c vi_284_1229 (fa_c vi_284_1230 (fa_c vi_284_1231 (fa_c vi_284_1232 (fa_c vi_284_1233 (fa_c vi_284_1236 (fa_c vi_284_1239 (fa_c vi_284_1240 (fa_c vi_284_1241 (fa_c vi_284_1242 (fa_c vi_284_1243 (fa_c vi_284_1244 (fa_c vi_284_1245 (fa_c vi_284_1246 (fa_c vi_284_1247 (fa_c vi_284_1248 (fa_c vi_284_1249 (fa_c vi_284_1250 (fa_c vi_284_1251 (fa_c vi_284_1252 (fa_c vi_284_1255 (fa_c vi_284_1256 (fa_c vi_284_1257 (fa_c vi_284_1258 (fa_c vi_284_1259 (fa_c vi_284_1260 (fa_c vi_284_1261 (fa_c vi_284_1262 (fa_c vi_284_1263 (fa_c vi_284_1264 (fa_c vi_284_1265 (fa_c vi_284_1266 (fa_c vi_284_1269 (fa_c vi_284_1272 (fa_c vi_284_1273 (fa_c vi_284_1274 (fa_c vi_284_1275 (fa_c vi_284_1276 (fa_c vi_284_1277 (fa_c vi_284_1278 (fa_c vi_284_1279 (fa_c vi_284_1280 (fa_c vi_284_1281 (fa_c vi_284_1282 (fa_c vi_284_1283 (fa_c vi_284_1284 (fa_c vi_284_1285 (fa_c vi_284_1288 (fa_c vi_284_1289 (fa_c vi_284_1290 (fa_c vi_284_1291 (fa_c vi_284_1292 (fa_c vi_284_1293 (fa_c vi_284_1294 (fa_c vi_284_1295 (fa_c vi_284_1296 (fa_c vi_284_1297 (fa_c vi_284_1298 (fa_c vi_284_1299 (fa_c vi_284_1302 (fa_c vi_284_1305 (fa_c vi_284_1306 (fa_c vi_284_1307 (fa_c vi_284_1308 (fa_c vi_284_1309 (fa_c vi_284_1310 (fa_c vi_284_1311 (fa_c vi_284_1312 (fa_c vi_284_1313 (fa_c vi_284_1316 (fa_c vi_284_1317 (fa_c vi_284_1318 (fa_c vi_284_1319 (fa_c vi_284_1320 (fa_c vi_284_1321 (fa_c vi_284_1322 (fa_c vi_284_1325 (fa_c vi_284_1328 (fa_c vi_284_1329 (fa_c vi_284_1330 (fa_c vi_284_1331 (fa_c vi_284_1332 (fa_c vi_284_1333 (fa_c vi_284_1334 (fa_c vi_284_1335 (fa_c vi_284_1336 (fa_c vi_284_1337 (fa_c vi_284_1338 (fa_c vi_284_1339 (fa_c vi_284_1340 (fa_c vi_284_1341 (fa_c vi_284_1344 (fa_c vi_284_1345 (fa_c vi_284_1346 (fa_c vi_284_1347 (fa_c vi_284_1348 (fa_c vi_284_1349 (fa_c vi_284_1350 (fa_c vi_284_1351 (fa_c vi_284_1352 (fa_c vi_284_1353 (fa_c vi_284_1354 (fa_c vi_284_1355 (fa_c vi_284_1358 (fa_c vi_284_1361 (fa_c vi_284_1362 (fa_c vi_284_1363 (fa_c vi_284_1364 (fa_c vi_284_1365 (fa_c vi_284_1366 (fa_c vi_284_1367 (fa_c vi_284_1368 (fa_c vi_284_1369 (fa_c vi_284_1372 (fa_c vi_284_1373 (fa_c vi_284_1374 (fa_c vi_284_1375 (fa_c vi_284_1376 (fa_c vi_284_1377 (fa_c vi_284_1378 (fa_c vi_284_1381 (fa_c vi_284_1384 (fa_c vi_284_1385 (fa_c vi_284_1386 (fa_c vi_284_1387 (fa_c vi_284_1388 (fa_c vi_284_1389 (fa_c vi_284_1390 (fa_c vi_284_1391 (fa_c vi_284_1392 (fa_c vi_284_1395 (fa_c vi_284_1396 (fa_c vi_284_1397 (fa_c vi_284_1398 (fa_c vi_284_1399 (fa_c vi_284_1400 (fa_c vi_284_1401 (fa_c vi_284_1404 (fa_c vi_284_1407 (fa_c vi_284_1408 (fa_c vi_284_1409 (fa_c vi_284_1410 (fa_c vi_284_1411 (fa_c vi_284_1412 (fa_c vi_284_1413 (fa_c vi_284_1414 (fa_c vi_284_1415 (fa_c vi_284_1418 (fa_c vi_284_1419 (fa_c vi_284_1420 (fa_c vi_284_1421 (fa_c vi_284_1422 (fa_c vi_284_1423 (fa_c vi_284_1424 (fa_c vi_284_1427 (fa_c vi_284_1430 (fa_c vi_284_1431 (fa_c vi_284_1432 (fa_c vi_284_1433 (fa_c vi_284_1434 (fa_c vi_284_1435 (fa_c vi_284_1436 (fa_c vi_284_1437 (fa_c vi_284_1438 (fa_c vi_284_1441 (fa_c vi_284_1442 (fa_c vi_284_1443 (fa_c vi_284_1444 (fa_c vi_284_1445 (fa_c vi_284_1446 (fa_c vi_284_1447 (fa_c vi_284_1450 (fa_c vi_284_1453 (fa_c vi_284_1454 (fa_c vi_284_1455 (fa_c vi_284_1456 (fa_c vi_284_1459 (fa_c vi_284_1460 (fa_c vi_284_1463 (fa_c vi_284_1466 (fa_c vi_284_1467 (fa_c vi_284_1468 (fa_c vi_284_1469 (fa_c vi_284_1470 (fa_c vi_284_1471 (fa_c vi_284_1472 (fa_c vi_284_1473 (fa_c vi_284_1474 (fa_c vi_284_1477 (fa_c vi_284_1478 (fa_c vi_284_1481 (fa_c vi_284_1482 (fa_c vi_284_1485 (fa_c vi_284_1486 (fa_c vi_284_1487 (fa_c vi_284_1488 (fa_c vi_284_1489 (fa_c vi_284_1490 (fa_c vi_284_1491 (fa_c vi_284_1494 (fa_c vi_284_1495 (fa_c vi_284_1498 (fa_c vi_284_1499 (fa_c vi_284_1502 (fa_c vi_284_1505 (fa_c vi_284_1506 (fa_c vi_284_1507 (fa_c vi_284_1508 (fa_c vi_284_1509 (fa_c vi_284_1510 (fa_c vi_284_1511 (fa_c vi_284_1512 (fa_c vi_284_1513 (fa_c vi_284_1516 (fa_c vi_284_1517 (fa_c vi_284_1518 (fa_c vi_284_1519 (fa_c vi_284_1520 (fa_c vi_284_1521 (fa_c vi_284_1522 (fa_c vi_284_1525 (fa_c vi_284_1528 (fa_c vi_284_1529 (fa_c vi_284_1530 (fa_c vi_284_1533 (fa_c vi_284_1536 (fa_c vi_284_1537 (fun _ h => absurd h List.not_mem_nil)))))))))))))))))))))))))))))))))))))))))))))))))))))))))))))))))))))))))))))))))))))))))))))))))))))))))))))))))))))))))))))))))))))))))))))))))))))))))))))))))))))))))))))))))))))))))))))))))))))))))))))))))))))))))))))))))))))))))))))))))))))))))))))))))))))))))))))))))))))))))))))))))))))))))))))))))))))))))))))))))))))))))))))))))))))))))))))))))))))))))))))))))))))))))))))))))))))))))))))))))))))))))))))))))))))))))))))))))))))))))))))))))))))))))))))))))))))))))))))))))))))))))))))))))))))))))))))))))))))))))))))))))))))))))))))))))))))))))))))))))))))))))))))))))))))))))))))))))))))))))))))))))))))))))))))))))))))))))))))))))))))))))))))))))))))))))))))))))))))))))))))))))))))))))))))))))))))))))))))))))))))))))))))))))))))))))))))))))))))))))))))))))))))))))))))))))))))))))))))))))))))))))))))))))))))))))))))))))))))))))))))))))))))))))))))))))))))))))))))))))))))))))))))))))))))))))))))))))))))))))))))))))))))))))))))))))))))))))))))))))))))))))))))))))))))))))))))))))))))))))))))))))))))))))))))))))))))))))))))))))))))))))))))))))))))))))
