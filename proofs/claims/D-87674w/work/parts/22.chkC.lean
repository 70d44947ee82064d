set_option maxRecDepth 100000
set_option maxHeartbeats 4000000 in
theorem zmk243 : zchk 243 = true := by decide +kernel
set_option maxHeartbeats 4000000 in
theorem zmk244 : zchk 244 = true := by decide +kernel
set_option maxHeartbeats 4000000 in
theorem zmk245 : zchk 245 = true := by decide +kernel
set_option maxHeartbeats 4000000 in
theorem zmk246 : zchk 246 = true := by decide +kernel
set_option maxHeartbeats 4000000 in
theorem zmk247 : zchk 247 = true := by decide +kernel
set_option maxHeartbeats 4000000 in
theorem zmk248 : zchk 248 = true := by decide +kernel
set_option maxHeartbeats 4000000 in
theorem zmk249 : zchk 249 = true := by decide +kernel
set_option maxHeartbeats 4000000 in
theorem zmk250 : zchk 250 = true := by decide +kernel
set_option maxHeartbeats 4000000 in
theorem zmk251 : zchk 251 = true := by decide +kernel
set_option maxHeartbeats 4000000 in
theorem zmk252 : zchk 252 = true := by decide +kernel
set_option maxHeartbeats 4000000 in
theorem zmk253 : zchk 253 = true := by decide +kernel
set_option maxHeartbeats 4000000 in
theorem zmk254 : zchk 254 = true := by decide +kernel
set_option maxHeartbeats 4000000 in
theorem zmk255 : zchk 255 = true := by decide +kernel
set_option maxHeartbeats 4000000 in
theorem zmk256 : zchk 256 = true := by decide +kernel
set_option maxHeartbeats 4000000 in
theorem zmk257 : zchk 257 = true := by decide +kernel
set_option maxHeartbeats 4000000 in
theorem zmk258 : zchk 258 = true := by decide +kernel
set_option maxHeartbeats 4000000 in
theorem zmk259 : zchk 259 = true := by decide +kernel
set_option maxHeartbeats 4000000 in
theorem zmk260 : zchk 260 = true := by decide +kernel
set_option maxHeartbeats 4000000 in
theorem zmk261 : zchk 261 = true := by decide +kernel
set_option maxHeartbeats 4000000 in
theorem zmk262 : zchk 262 = true := by decide +kernel
set_option maxHeartbeats 4000000 in
theorem zmk263 : zchk 263 = true := by decide +kernel
set_option maxHeartbeats 4000000 in
theorem zmk264 : zchk 264 = true := by decide +kernel
set_option maxHeartbeats 4000000 in
theorem zmk265 : zchk 265 = true := by decide +kernel
set_option maxHeartbeats 4000000 in
theorem zmk266 : zchk 266 = true := by decide +kernel
set_option maxHeartbeats 4000000 in
theorem zmk267 : zchk 267 = true := by decide +kernel
set_option maxHeartbeats 4000000 in
theorem zmk268 : zchk 268 = true := by decide +kernel
set_option maxHeartbeats 4000000 in
theorem zmk269 : zchk 269 = true := by decide +kernel
set_option maxHeartbeats 4000000 in
theorem zmk270 : zchk 270 = true := by decide +kernel
set_option maxHeartbeats 4000000 in
theorem zmk271 : zchk 271 = true := by decide +kernel
set_option maxHeartbeats 4000000 in
theorem zmk272 : zchk 272 = true := by decide +kernel
set_option maxHeartbeats 4000000 in
theorem zmk273 : zchk 273 = true := by decide +kernel
set_option maxHeartbeats 4000000 in
theorem zmk274 : zchk 274 = true := by decide +kernel
set_option maxHeartbeats 4000000 in
theorem zmk275 : zchk 275 = true := by decide +kernel
set_option maxHeartbeats 4000000 in
theorem zmk276 : zchk 276 = true := by decide +kernel
set_option maxHeartbeats 4000000 in
theorem zmk277 : zchk 277 = true := by decide +kernel
set_option maxHeartbeats 4000000 in
theorem zmk278 : zchk 278 = true := by decide +kernel
set_option maxHeartbeats 4000000 in
theorem zmk279 : zchk 279 = true := by decide +kernel
set_option maxHeartbeats 4000000 in
theorem zmk280 : zchk 280 = true := by decide +kernel
set_option maxHeartbeats 4000000 in
theorem zmk281 : zchk 281 = true := by decide +kernel
set_option maxHeartbeats 4000000 in
theorem zmk282 : zchk 282 = true := by decide +kernel
set_option maxHeartbeats 4000000 in
theorem zmk283 : zchk 283 = true := by decide +kernel
set_option maxHeartbeats 4000000 in
theorem zmk284 : zchk 284 = true := by decide +kernel
set_option maxHeartbeats 4000000 in
theorem zmk285 : zchk 285 = true := by decide +kernel
set_option maxHeartbeats 4000000 in
theorem zmk286 : zchk 286 = true := by decide +kernel
set_option maxHeartbeats 4000000 in
theorem zmk287 : zchk 287 = true := by decide +kernel
set_option maxHeartbeats 4000000 in
theorem zmk288 : zchk 288 = true := by decide +kernel
set_option maxHeartbeats 4000000 in
theorem zmk289 : zchk 289 = true := by decide +kernel
set_option maxHeartbeats 4000000 in
theorem zmk290 : zchk 290 = true := by decide +kernel
set_option maxHeartbeats 4000000 in
theorem zmk291 : zchk 291 = true := by decide +kernel
set_option maxHeartbeats 4000000 in
theorem zmk292 : zchk 292 = true := by decide +kernel
set_option maxHeartbeats 4000000 in
theorem zmk293 : zchk 293 = true := by decide +kernel
set_option maxHeartbeats 4000000 in
theorem zmk294 : zchk 294 = true := by decide +kernel
set_option maxHeartbeats 4000000 in
theorem zmk295 : zchk 295 = true := by decide +kernel
set_option maxHeartbeats 4000000 in
theorem zmk296 : zchk 296 = true := by decide +kernel
set_option maxHeartbeats 4000000 in
theorem zmk297 : zchk 297 = true := by decide +kernel
set_option maxHeartbeats 4000000 in
theorem zmk298 : zchk 298 = true := by decide +kernel
set_option maxHeartbeats 4000000 in
theorem zmk299 : zchk 299 = true := by decide +kernel
set_option maxHeartbeats 4000000 in
theorem zmk300 : zchk 300 = true := by decide +kernel
set_option maxHeartbeats 4000000 in
theorem zmk301 : zchk 301 = true := by decide +kernel
set_option maxHeartbeats 4000000 in
theorem zmk302 : zchk 302 = true := by decide +kernel
set_option maxHeartbeats 4000000 in
theorem zmk303 : zchk 303 = true := by decide +kernel
set_option maxHeartbeats 4000000 in
theorem zmk304 : zchk 304 = true := by decide +kernel
set_option maxHeartbeats 4000000 in
theorem zmk305 : zchk 305 = true := by decide +kernel
set_option maxHeartbeats 4000000 in
theorem zmk306 : zchk 306 = true := by decide +kernel
set_option maxHeartbeats 4000000 in
theorem zmk307 : zchk 307 = true := by decide +kernel
set_option maxHeartbeats 4000000 in
theorem zmk308 : zchk 308 = true := by decide +kernel
set_option maxHeartbeats 4000000 in
theorem zmk309 : zchk 309 = true := by decide +kernel
set_option maxHeartbeats 4000000 in
theorem zmk310 : zchk 310 = true := by decide +kernel
set_option maxHeartbeats 4000000 in
theorem zmk311 : zchk 311 = true := by decide +kernel
set_option maxHeartbeats 4000000 in
theorem zmk312 : zchk 312 = true := by decide +kernel
set_option maxHeartbeats 4000000 in
theorem zmk313 : zchk 313 = true := by decide +kernel
set_option maxHeartbeats 4000000 in
theorem zmk314 : zchk 314 = true := by decide +kernel
set_option maxHeartbeats 4000000 in
theorem zmk315 : zchk 315 = true := by decide +kernel
set_option maxHeartbeats 4000000 in
theorem zmk316 : zchk 316 = true := by decide +kernel
set_option maxHeartbeats 4000000 in
theorem zmk317 : zchk 317 = true := by decide +kernel
set_option maxHeartbeats 4000000 in
theorem zmk318 : zchk 318 = true := by decide +kernel
set_option maxHeartbeats 4000000 in
theorem zmk319 : zchk 319 = true := by decide +kernel
set_option maxHeartbeats 4000000 in
theorem zmk320 : zchk 320 = true := by decide +kernel
set_option maxHeartbeats 4000000 in
theorem zmk321 : zchk 321 = true := by decide +kernel
set_option maxHeartbeats 4000000 in
theorem zmk322 : zchk 322 = true := by decide +kernel
set_option maxHeartbeats 4000000 in
theorem zmk323 : zchk 323 = true := by decide +kernel
set_option maxHeartbeats 4000000 in
theorem zmk324 : zchk 324 = true := by decide +kernel
set_option maxHeartbeats 4000000 in
theorem zmk325 : zchk 325 = true := by decide +kernel
set_option maxHeartbeats 4000000 in
theorem zmk326 : zchk 326 = true := by decide +kernel
set_option maxHeartbeats 4000000 in
theorem zmk327 : zchk 327 = true := by decide +kernel
set_option maxHeartbeats 4000000 in
theorem zmk328 : zchk 328 = true := by decide +kernel
set_option maxHeartbeats 4000000 in
theorem zmk329 : zchk 329 = true := by decide +kernel
set_option maxHeartbeats 4000000 in
theorem zmk330 : zchk 330 = true := by decide +kernel
set_option maxHeartbeats 4000000 in
theorem zmk331 : zchk 331 = true := by decide +kernel
set_option maxHeartbeats 4000000 in
theorem zmk332 : zchk 332 = true := by decide +kernel
set_option maxHeartbeats 4000000 in
theorem zmk333 : zchk 333 = true := by decide +kernel
set_option maxHeartbeats 4000000 in
theorem zmk334 : zchk 334 = true := by decide +kernel
set_option maxHeartbeats 4000000 in
theorem zmk335 : zchk 335 = true := by decide +kernel
set_option maxHeartbeats 4000000 in
theorem zmk336 : zchk 336 = true := by decide +kernel
set_option maxHeartbeats 4000000 in
theorem zmk337 : zchk 337 = true := by decide +kernel
set_option maxHeartbeats 4000000 in
theorem zmk338 : zchk 338 = true := by decide +kernel
set_option maxHeartbeats 4000000 in
theorem zmk339 : zchk 339 = true := by decide +kernel
set_option maxHeartbeats 4000000 in
theorem zmk340 : zchk 340 = true := by decide +kernel
set_option maxHeartbeats 4000000 in
theorem zmk341 : zchk 341 = true := by decide +kernel
set_option maxHeartbeats 4000000 in
theorem zmk342 : zchk 342 = true := by decide +kernel
set_option maxHeartbeats 4000000 in
theorem zmk343 : zchk 343 = true := by decide +kernel
set_option maxHeartbeats 4000000 in
theorem zmk344 : zchk 344 = true := by decide +kernel
set_option maxHeartbeats 4000000 in
theorem zmk345 : zchk 345 = true := by decide +kernel
set_option maxHeartbeats 4000000 in
theorem zmk346 : zchk 346 = true := by decide +kernel
set_option maxHeartbeats 4000000 in
theorem zmk347 : zchk 347 = true := by decide +kernel
set_option maxHeartbeats 4000000 in
theorem zmk348 : zchk 348 = true := by decide +kernel
set_option maxHeartbeats 4000000 in
theorem zmk349 : zchk 349 = true := by decide +kernel
set_option maxHeartbeats 4000000 in
theorem zmk350 : zchk 350 = true := by decide +kernel
set_option maxHeartbeats 4000000 in
theorem zmk351 : zchk 351 = true := by decide +kernel
set_option maxHeartbeats 4000000 in
theorem zmk352 : zchk 352 = true := by decide +kernel
set_option maxHeartbeats 4000000 in
theorem zmk353 : zchk 353 = true := by decide +kernel
set_option maxHeartbeats 4000000 in
theorem zmk354 : zchk 354 = true := by decide +kernel
set_option maxHeartbeats 4000000 in
theorem zmk355 : zchk 355 = true := by decide +kernel
set_option maxHeartbeats 4000000 in
theorem zmk356 : zchk 356 = true := by decide +kernel
set_option maxHeartbeats 4000000 in
theorem zmk357 : zchk 357 = true := by decide +kernel
set_option maxHeartbeats 4000000 in
theorem zmk358 : zchk 358 = true := by decide +kernel
set_option maxHeartbeats 4000000 in
theorem zmk359 : zchk 359 = true := by decide +kernel
set_option maxHeartbeats 4000000 in
theorem zmk360 : zchk 360 = true := by decide +kernel
set_option maxHeartbeats 4000000 in
theorem zmk361 : zchk 361 = true := by decide +kernel
set_option maxHeartbeats 4000000 in
theorem zmk362 : zchk 362 = true := by decide +kernel
set_option maxHeartbeats 4000000 in
theorem zmk363 : zchk 363 = true := by decide +kernel
set_option maxHeartbeats 4000000 in
theorem zmk364 : zchk 364 = true := by decide +kernel
set_option maxHeartbeats 4000000 in
theorem zmk365 : zchk 365 = true := by decide +kernel
set_option maxHeartbeats 4000000 in
theorem zmk366 : zchk 366 = true := by decide +kernel
set_option maxHeartbeats 4000000 in
theorem zmk367 : zchk 367 = true := by decide +kernel
set_option maxHeartbeats 4000000 in
theorem zmk368 : zchk 368 = true := by decide +kernel
set_option maxHeartbeats 4000000 in
theorem zmk369 : zchk 369 = true := by decide +kernel
set_option maxHeartbeats 4000000 in
theorem zmk370 : zchk 370 = true := by decide +kernel
set_option maxHeartbeats 4000000 in
theorem zmk371 : zchk 371 = true := by decide +kernel
set_option maxHeartbeats 4000000 in
theorem zmk372 : zchk 372 = true := by decide +kernel
set_option maxHeartbeats 4000000 in
theorem zmk373 : zchk 373 = true := by decide +kernel
set_option maxHeartbeats 4000000 in
theorem zmk374 : zchk 374 = true := by decide +kernel
set_option maxHeartbeats 4000000 in
theorem zmk375 : zchk 375 = true := by decide +kernel
set_option maxHeartbeats 4000000 in
theorem zmk376 : zchk 376 = true := by decide +kernel
set_option maxHeartbeats 4000000 in
theorem zmk377 : zchk 377 = true := by decide +kernel
set_option maxHeartbeats 4000000 in
theorem zmk378 : zchk 378 = true := by decide +kernel
set_option maxHeartbeats 4000000 in
theorem zmk379 : zchk 379 = true := by decide +kernel
set_option maxHeartbeats 4000000 in
theorem zmk380 : zchk 380 = true := by decide +kernel
set_option maxHeartbeats 4000000 in
theorem zmk381 : zchk 381 = true := by decide +kernel
set_option maxHeartbeats 4000000 in
theorem zmk382 : zchk 382 = true := by decide +kernel
set_option maxHeartbeats 4000000 in
theorem zmk383 : zchk 383 = true := by decide +kernel
set_option maxHeartbeats 4000000 in
theorem zmk384 : zchk 384 = true := by decide +kernel
set_option maxHeartbeats 4000000 in
theorem zmk385 : zchk 385 = true := by decide +kernel
set_option maxHeartbeats 4000000 in
theorem zmk386 : zchk 386 = true := by decide +kernel
set_option maxHeartbeats 4000000 in
theorem zmk387 : zchk 387 = true := by decide +kernel
set_option maxHeartbeats 4000000 in
theorem zmk388 : zchk 388 = true := by decide +kernel
set_option maxHeartbeats 4000000 in
theorem zmk389 : zchk 389 = true := by decide +kernel
set_option maxHeartbeats 4000000 in
theorem zmk390 : zchk 390 = true := by decide +kernel
set_option maxHeartbeats 4000000 in
theorem zmk391 : zchk 391 = true := by decide +kernel
set_option maxHeartbeats 4000000 in
theorem zmk392 : zchk 392 = true := by decide +kernel
set_option maxHeartbeats 4000000 in
theorem zmk393 : zchk 393 = true := by decide +kernel
set_option maxHeartbeats 4000000 in
theorem zmk394 : zchk 394 = true := by decide +kernel
set_option maxHeartbeats 4000000 in
theorem zmk395 : zchk 395 = true := by decide +kernel
set_option maxHeartbeats 4000000 in
theorem zmk396 : zchk 396 = true := by decide +kernel
set_option maxHeartbeats 4000000 in
theorem zmk397 : zchk 397 = true := by decide +kernel
set_option maxHeartbeats 4000000 in
theorem zmk398 : zchk 398 = true := by decide +kernel
set_option maxHeartbeats 4000000 in
theorem zmk399 : zchk 399 = true := by decide +kernel
set_option maxHeartbeats 4000000 in
theorem zmk400 : zchk 400 = true := by decide +kernel
set_option maxHeartbeats 4000000 in
theorem zmk401 : zchk 401 = true := by decide +kernel
set_option maxHeartbeats 4000000 in
theorem zmk402 : zchk 402 = true := by decide +kernel
set_option maxHeartbeats 4000000 in
theorem zmk403 : zchk 403 = true := by decide +kernel
set_option maxHeartbeats 4000000 in
theorem zmk404 : zchk 404 = true := by decide +kernel
set_option maxHeartbeats 4000000 in
theorem zmk405 : zchk 405 = true := by decide +kernel
set_option maxHeartbeats 4000000 in
theorem zmk406 : zchk 406 = true := by decide +kernel
set_option maxHeartbeats 4000000 in
theorem zmk407 : zchk 407 = true := by decide +kernel
set_option maxHeartbeats 4000000 in
theorem zmk408 : zchk 408 = true := by decide +kernel
set_option maxHeartbeats 4000000 in
theorem zmk409 : zchk 409 = true := by decide +kernel
set_option maxHeartbeats 4000000 in
theorem zmk410 : zchk 410 = true := by decide +kernel
set_option maxHeartbeats 4000000 in
theorem zmk411 : zchk 411 = true := by decide +kernel
set_option maxHeartbeats 4000000 in
theorem zmk412 : zchk 412 = true := by decide +kernel
set_option maxHeartbeats 4000000 in
theorem zmk413 : zchk 413 = true := by decide +kernel
set_option maxHeartbeats 4000000 in
theorem zmk414 : zchk 414 = true := by decide +kernel
set_option maxHeartbeats 4000000 in
theorem zmk415 : zchk 415 = true := by decide +kernel
set_option maxHeartbeats 4000000 in
theorem zmk416 : zchk 416 = true := by decide +kernel
set_option maxHeartbeats 4000000 in
theorem zmk417 : zchk 417 = true := by decide +kernel
set_option maxHeartbeats 4000000 in
theorem zmk418 : zchk 418 = true := by decide +kernel
set_option maxHeartbeats 4000000 in
theorem zmk419 : zchk 419 = true := by decide +kernel
set_option maxHeartbeats 4000000 in
theorem zmk420 : zchk 420 = true := by decide +kernel
set_option maxHeartbeats 4000000 in
theorem zmk421 : zchk 421 = true := by decide +kernel
set_option maxHeartbeats 4000000 in
theorem zmk422 : zchk 422 = true := by decide +kernel
set_option maxHeartbeats 4000000 in
theorem zmk423 : zchk 423 = true := by decide +kernel
set_option maxHeartbeats 4000000 in
theorem zmk424 : zchk 424 = true := by decide +kernel
set_option maxHeartbeats 4000000 in
theorem zmk425 : zchk 425 = true := by decide +kernel
set_option maxHeartbeats 4000000 in
theorem zmk426 : zchk 426 = true := by decide +kernel
set_option maxHeartbeats 4000000 in
theorem zmk427 : zchk 427 = true := by decide +kernel
set_option maxHeartbeats 4000000 in
theorem zmk428 : zchk 428 = true := by decide +kernel
set_option maxHeartbeats 4000000 in
theorem zmk429 : zchk 429 = true := by decide +kernel
set_option maxHeartbeats 4000000 in
theorem zmk430 : zchk 430 = true := by decide +kernel
set_option maxHeartbeats 4000000 in
theorem zmk431 : zchk 431 = true := by decide +kernel
set_option maxHeartbeats 4000000 in
theorem zmk432 : zchk 432 = true := by decide +kernel
set_option maxHeartbeats 4000000 in
theorem zmk433 : zchk 433 = true := by decide +kernel
set_option maxHeartbeats 4000000 in
theorem zmk434 : zchk 434 = true := by decide +kernel
set_option maxHeartbeats 4000000 in
theorem zmk435 : zchk 435 = true := by decide +kernel
set_option maxHeartbeats 4000000 in
theorem zmk436 : zchk 436 = true := by decide +kernel
set_option maxHeartbeats 4000000 in
theorem zmk437 : zchk 437 = true := by decide +kernel
set_option maxHeartbeats 4000000 in
theorem zmk438 : zchk 438 = true := by decide +kernel
set_option maxHeartbeats 4000000 in
theorem zmk439 : zchk 439 = true := by decide +kernel
set_option maxHeartbeats 4000000 in
theorem zmk440 : zchk 440 = true := by decide +kernel
set_option maxHeartbeats 4000000 in
theorem zmk441 : zchk 441 = true := by decide +kernel
set_option maxHeartbeats 4000000 in
theorem zmk442 : zchk 442 = true := by decide +kernel
set_option maxHeartbeats 4000000 in
theorem zmk443 : zchk 443 = true := by decide +kernel
set_option maxHeartbeats 4000000 in
theorem zmk444 : zchk 444 = true := by decide +kernel
